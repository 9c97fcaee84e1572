/-! pictures with one element more; a wedding put back -/
set_option maxRecDepth 100000
def adP (σ : St) (ins fee songs : Int32) (home : Nat) : St := ((fun a b => if a = 0 ∧ b = 0 then nP σ + 1 else if a = 1 ∧ b = nP σ then home else σ.1 a b), (fun a b => if (10 ≤ a ∧ a < 15) ∧ b = nP σ then (if a = 10 then ins else if a = 11 then fee else if a = 12 then songs else 0) else σ.2.1 a b), (fun a b => if a = nP σ then 0 else σ.2.2 a b))
def adB (σ : St) (sh : Int32) : St := ((fun a b => if a = 0 ∧ b = 1 then nB σ + 1 else σ.1 a b), (fun a b => if a = 28 ∧ b = nB σ then sh else σ.2.1 a b), σ.2.2)
def adW (σ : St) (band day town : Nat) (start len songs told : Int32) : St := ((fun a b => if a = 0 ∧ b = 2 then nW σ + 1 else if (2 ≤ a ∧ a < 6) ∧ b = nW σ then (if a = 2 then town else if a = 3 then band else if a = 4 then day else 0) else σ.1 a b), (fun a b => if (20 ≤ a ∧ a < 28) ∧ b = nW σ then (if a = 20 then start else if a = 21 then len else if a = 22 then songs else if a = 23 then told else 0) else σ.2.1 a b), σ.2.2)
/-- a wedding as it stood in another state -/
def cpW (σ0 σ : St) (k : Nat) : St := ((fun a b => if (2 ≤ a ∧ a < 6) ∧ b = k then σ0.1 a b else σ.1 a b), (fun a b => if (20 ≤ a ∧ a < 28) ∧ b = k then σ0.2.1 a b else σ.2.1 a b), σ.2.2)
theorem adP_gv {σ : St} {i f s : Int32} {h b : Nat} : bGiv (adP σ i f s h) b = bGiv σ b := funext fun x => if_neg (fun z => absurd z.1.2 (by omega))
theorem adW_gv {σ : St} {p q r b : Nat} {s l g t : Int32} : bGiv (adW σ p q r s l g t) b = bGiv σ b := funext fun x => if_neg (fun z => absurd z.1.2 (by omega))
theorem cpW_gv {σ0 σ : St} {k b : Nat} : bGiv (cpW σ0 σ k) b = bGiv σ b := funext fun x => if_neg (fun z => absurd z.1.2 (by omega))
theorem adB_gv {σ : St} {s : Int32} {b : Nat} : bGiv (adB σ s) b = bGiv σ b := funext fun x => if_neg (fun z => absurd z.1 (by omega))
theorem adB_nd {σ : St} {s : Int32} {b : Nat} (h : b ≠ nB σ) : bNeed (adB σ s) b = bNeed σ b := funext fun x => congrArg (fun z => shNeed z x) (if_neg (fun z => h z.2))
theorem adB_ndn {σ : St} {s : Int32} : bNeed (adB σ s) (nB σ) = shNeed s := funext fun x => congrArg (fun z => shNeed z x) (if_pos ⟨rfl, rfl⟩)
theorem adP_RI {σ : St} {i f s : Int32} {h : Nat} (hI : RI σ) (hn : nP σ < 10) (hh : h < 6) : RI (adP σ i f s h) := by
  obtain ⟨h1, h2, h3, h4, h5⟩ := hI
  refine ⟨hn, h2, h3, fun k hk => ?_, fun k hk => h5 k hk⟩
  have hk : k < nP σ + 1 := hk
  show (if 1 = 0 ∧ k = 0 then nP σ + 1 else if 1 = 1 ∧ k = nP σ then h else σ.1 1 k) < 6
  rw [if_neg (by omega)]
  by_cases hz : k = nP σ
  · rw [if_pos ⟨rfl, hz⟩]; exact hh
  · rw [if_neg (fun z => hz z.2)]; exact h4 k (by omega)
theorem adB_RI {σ : St} {s : Int32} (hI : RI σ) (hn : nB σ < 6) : RI (adB σ s) := by
  obtain ⟨h1, h2, h3, h4, h5⟩ := hI
  refine ⟨h1, hn, h3, h4, fun k hk => ?_⟩
  obtain ⟨a, b, c, d⟩ := h5 k hk
  exact ⟨a, Nat.lt_succ_of_lt b, c, d⟩
theorem adW_RI {σ : St} {p q r : Nat} {s l g t : Int32} (hI : RI σ) (hn : nW σ < 14) (hp : p < nB σ) (hq : q < 366) (hr : r < 6) : RI (adW σ p q r s l g t) := by
  obtain ⟨h1, h2, h3, h4, h5⟩ := hI
  refine ⟨h1, h2, hn, h4, fun k hk => ?_⟩
  have hk : k < nW σ + 1 := hk
  by_cases hz : k = nW σ
  · subst hz
    have e : ∀ a, 2 ≤ a ∧ a < 6 → (adW σ p q r s l g t).1 a (nW σ) = (if a = 2 then r else if a = 3 then p else if a = 4 then q else 0) := fun a ha => by
      show (if a = 0 ∧ nW σ = 2 then nW σ + 1 else if (2 ≤ a ∧ a < 6) ∧ nW σ = nW σ then _ else _) = _
      rw [if_neg (by omega), if_pos ⟨ha, rfl⟩]
    refine ⟨?_, ?_, ?_, ?_⟩
    · show (adW σ p q r s l g t).1 2 (nW σ) < 6
      rw [e 2 (by omega)]; exact hr
    · show (adW σ p q r s l g t).1 3 (nW σ) < nB σ
      rw [e 3 (by omega)]; exact hp
    · show (adW σ p q r s l g t).1 4 (nW σ) < 366
      rw [e 4 (by omega)]; exact hq
    · show (adW σ p q r s l g t).1 5 (nW σ) < 4
      rw [e 5 (by omega)]; exact (by decide : (0 : Nat) < 4)
  · obtain ⟨a, b, c, d⟩ := h5 k (by omega)
    have e : ∀ a, 2 ≤ a ∧ a < 6 → (adW σ p q r s l g t).1 a k = σ.1 a k := fun a ha => by
      show (if a = 0 ∧ k = 2 then nW σ + 1 else if (2 ≤ a ∧ a < 6) ∧ k = nW σ then _ else _) = _
      rw [if_neg (by omega), if_neg (fun z => hz z.2)]
    refine ⟨?_, ?_, ?_, ?_⟩
    · show (adW σ p q r s l g t).1 2 k < 6
      rw [e 2 (by omega)]; exact a
    · show (adW σ p q r s l g t).1 3 k < nB σ
      rw [e 3 (by omega)]; exact b
    · show (adW σ p q r s l g t).1 4 k < 366
      rw [e 4 (by omega)]; exact c
    · show (adW σ p q r s l g t).1 5 k < 4
      rw [e 5 (by omega)]; exact d
theorem cpW_RI {σ0 σ : St} {k : Nat} (hI : RI σ) (h0 : RI σ0) (hc : cnt σ0 σ) (hk : k < nW σ) : RI (cpW σ0 σ k) := by
  obtain ⟨h1, h2, h3, h4, h5⟩ := hI
  refine ⟨h1, h2, h3, h4, fun j hj => ?_⟩
  by_cases hz : j = k
  · subst hz
    obtain ⟨a, b, c, d⟩ := h0.2.2.2.2 j (hc.w hk)
    have e : ∀ a, 2 ≤ a ∧ a < 6 → (cpW σ0 σ j).1 a j = σ0.1 a j := fun a ha => if_pos ⟨ha, rfl⟩
    refine ⟨?_, ?_, ?_, ?_⟩
    · show (cpW σ0 σ j).1 2 j < 6
      rw [e 2 (by omega)]; exact a
    · show (cpW σ0 σ j).1 3 j < nB σ
      rw [e 3 (by omega), ← hc.2.1]; exact b
    · show (cpW σ0 σ j).1 4 j < 366
      rw [e 4 (by omega)]; exact c
    · show (cpW σ0 σ j).1 5 j < 4
      rw [e 5 (by omega)]; exact d
  · obtain ⟨a, b, c, d⟩ := h5 j hj
    have e : ∀ a, (cpW σ0 σ k).1 a j = σ.1 a j := fun a => if_neg (fun z => hz z.2)
    refine ⟨?_, ?_, ?_, ?_⟩
    · show (cpW σ0 σ k).1 2 j < 6
      rw [e 2]; exact a
    · show (cpW σ0 σ k).1 3 j < nB σ
      rw [e 3]; exact b
    · show (cpW σ0 σ k).1 4 j < 366
      rw [e 4]; exact c
    · show (cpW σ0 σ k).1 5 j < 4
      rw [e 5]; exact d
section SETS
variable {D : va_G} {E : Nat → Nat} {α β : Nat → Nat → Nat} {F F' : Nat → Prop} {σ : St} {th ca : Int32} {sm : Int64} {H : Heap}
def adXP (σ : St) (α : Nat → Nat → Nat) (a2 z z2 : Nat) : Nat → Nat → Nat := fun i j => if i = 2 ∧ j = 0 then a2 else if i = 3 ∧ j = nP σ then z else if i = 4 ∧ j = nP σ then z2 else α i j
set_option maxHeartbeats 4000000 in
theorem RX.gwP (h : RX D E α F σ H) : ∃ (cap : Nat) (mc : Int32) (g : Nat → Option Nat), LR D E (α 1 0) (α 2 0) (nP σ) cap mc g H ∧ (∀ k, k < nP σ → g k = some (α 3 k)) ∧ F (α 1 0) ∧ (cap ≠ 0 → F (α 2 0)) ∧ cap ≤ 10 + 2 * nP σ ∧ (cap ≠ 0 → α 1 0 ≠ α 2 0) ∧
    ∀ (H1 : Heap) (a2 z z2 cap2 : Nat) (g2 : Nat → Option Nat) (ins fee songs : Int32) (home : Nat), LR D E (α 1 0) a2 (nP σ + 1) cap2 (mc + 1) g2 H1 → cap2 ≠ 0 → (cap2 ≤ 100 ∧ (cap2 ≤ 2 * nP σ + 10 ∨ cap2 = cap)) → (∀ k, k < nP σ → g2 k = g k) → g2 (nP σ) = some z → ((a2 = α 2 0 ∧ cap ≠ 0) ∨ (¬ F a2 ∧ F' a2)) → (∀ q : Nat, q < H.size → q ≠ α 1 0 → (cap ≠ 0 → q ≠ α 2 0) → H1[q]? = H[q]?) → va_at D vwCl (z, .inr (5, [.int ins, .int (nI home), .int fee, .int songs, .int 0, .int 0, .ref z2])) H1 → va_at D vwCl (z2, arZ E 366 (fun _ => 0)) H1 → ¬ F z → F' z → ¬ F z2 → F' z2 → a2 ≠ z → a2 ≠ z2 → z ≠ z2 → (∀ q, F q → F' q) → (∀ q, F' q → E 0 ≤ q) → nP σ < 10 → home < 6 → RX D E (adXP σ α a2 z z2) F' (adP σ ins fee songs home) H1 := by
  obtain ⟨h1, h0, γ, h2, h3⟩ := h
  obtain ⟨q1, ⟨q2, q2'⟩, q3⟩ := h2 0 (by decide)
  have q2' : γ.2.1 0 ≤ 10 + 2 * nP σ := q2'
  have hlc : cellX E σ γ α 1 0 = some (.inr (13, [.int (γ.1 0), .ref (α 2 0), .int (nI (nP σ))])) := rfl
  have hl := h3.1 1 0 _ hlc
  have hac : γ.2.1 0 ≠ 0 → cellX E σ γ α 2 0 = some (arQ E (γ.2.1 0) (fun k => if k < nP σ then some (α 3 k) else γ.2.2 0 k)) := fun hc0 => if_pos ⟨by decide, hc0⟩
  have hne : γ.2.1 0 ≠ 0 → α 1 0 ≠ α 2 0 := fun hc0 e => by
    have := (h3.2 1 0 2 0 _ _ hlc (hac hc0) e).1
    omega
  refine ⟨γ.2.1 0, γ.1 0, (fun k => if k < nP σ then some (α 3 k) else γ.2.2 0 k), ⟨hl.1, q1, by omega, ?_⟩, (fun k hk => if_pos hk), hl.2, (fun hc0 => (h3.1 2 0 _ (hac hc0)).2), q2', hne, ?_⟩
  · by_cases hc0 : γ.2.1 0 = 0
    · exact Or.inl ⟨hc0, q3 hc0⟩
    · exact Or.inr ⟨hc0, (h3.1 2 0 _ (hac hc0)).1⟩
  · intro H1 a2 z z2 cap2 g2 ins fee songs home hL hc2 hcb hg hgn ha2 hq hz_z hz_z2 hn_z hf_z hn_z2 hf_z2 hd_z hd_z2 hap_z_z2 hFF hE hy0 hy1
    have hkeep : ∀ i j e, cellX E σ γ α i j = some e → (i ≠ 2 ∨ j ≠ 0) → (i ≠ 1 ∨ j ≠ 0) → va_at D vwCl (α i j, e) H1 := by
      intro i j e he hij hij1
      refine (h3.1 i j e he).1.kept (hq _ (h3.1 i j e he).1.lt (fun z => ?_) (fun hc0 z => ?_))
      · have := h3.2 i j 1 0 _ _ he hlc z
        omega
      · have := h3.2 i j 2 0 _ _ he (hac hc0) z
        omega
    obtain ⟨hL1, hL2, hL3, hL4⟩ := hL
    have hL4 : va_at D vwCl (a2, arQ E cap2 g2) H1 := hL4.elim (fun z => absurd z.1 hc2) (fun z => z.2)
    have A2 : ∀ {i j}, ¬ (i = 2 ∧ j = 0) → ¬ (i = 3 ∧ j = nP σ) → ¬ (i = 4 ∧ j = nP σ) → (adXP σ α a2 z z2) i j = α i j := by
      intro i j n0 n1 n2
      unfold adXP
      rw [if_neg n0, if_neg n1, if_neg n2]
    have A22 : (adXP σ α a2 z z2) 2 0 = a2 := if_pos ⟨rfl, rfl⟩
    have A3_3 : (adXP σ α a2 z z2) 3 (nP σ) = z := by
      unfold adXP
      rw [if_neg (by omega), if_pos ⟨rfl, rfl⟩]
    have A3_4 : (adXP σ α a2 z z2) 4 (nP σ) = z2 := by
      unfold adXP
      rw [if_neg (by omega), if_neg (by omega), if_pos ⟨rfl, rfl⟩]
    obtain ⟨γ1, hγ⟩ : ∃ γ1 : Gh, γ1 = ((fun i => if i = 0 then γ.1 0 + 1 else γ.1 i, fun i => if i = 0 then cap2 else γ.2.1 i, fun i k => if i = 0 then g2 k else γ.2.2 i k) : Gh) := ⟨_, rfl⟩
    have hls : xLs E (adP σ ins fee songs home) γ1 (adXP σ α a2 z z2) := by
      intro j0 hj4
      subst hγ
      by_cases hj : j0 = 0
      · subst hj
        refine ⟨?_, ?_, ?_⟩
        · show nP σ + 1 ≤ cap2
          exact hL2
        · show cap2 ≤ 100 ∧ cap2 ≤ 10 + 2 * (nP σ + 1)
          omega
        · intro z
          exact absurd z hc2
      · have e1 : xCnt (adP σ ins fee songs home) j0 = xCnt σ j0 := by
          match j0, hj with
          | 1, _ => rfl
          | 2, _ => rfl
          | 3, _ => rfl
          | x + 4, _ => exact absurd hj4 (by omega)
        have e2 : (adXP σ α a2 z z2) 2 j0 = α 2 j0 := A2 (fun z => hj z.2) (fun z => absurd z.1 (by decide)) (fun z => absurd z.1 (by decide))
        rw [e1, e2]
        refine ⟨?_, ?_, ?_⟩
        · show xCnt σ j0 ≤ (if j0 = 0 then cap2 else γ.2.1 j0)
          rw [if_neg hj]; exact (h2 j0 hj4).1
        · show (if j0 = 0 then cap2 else γ.2.1 j0) ≤ 100 ∧ (if j0 = 0 then cap2 else γ.2.1 j0) ≤ 10 + 2 * xCnt σ j0
          rw [if_neg hj]; exact (h2 j0 hj4).2.1
        · show (if j0 = 0 then cap2 else γ.2.1 j0) = 0 → _
          rw [if_neg hj]; exact (h2 j0 hj4).2.2
    refine ⟨adP_RI h1 hy0 hy1, hE, γ1, hls, Rep.re (fun i j0 => (i = 2 ∧ j0 = 0 ∧ ¬ F a2) ∨ (i = 3 ∧ j0 = (nP σ)) ∨ (i = 4 ∧ j0 = (nP σ))) h3 hFF (fun i j0 e' he' => ?_) ?_⟩
    · match i with
      | 0 =>
        have e : cellX E (adP σ ins fee songs home) γ1 (adXP σ α a2 z z2) 0 j0 = cellX E σ γ α 0 j0 := by subst hγ; rfl
        rw [e] at he'
        have ea : (adXP σ α a2 z z2) 0 j0 = α 0 j0 := A2 (by omega) (by omega) (by omega)
        rw [ea]
        exact ⟨hkeep 0 j0 e' he' (Or.inl (by decide)) (Or.inl (by decide)), Or.inl ⟨(fun z => by rcases z with z | z | z <;> exact absurd z.1 (by decide)), ⟨e', he'⟩, rfl⟩⟩
      | 1 =>
        by_cases hj : j0 = 0
        · subst hj
          have hc : cellX E (adP σ ins fee songs home) γ1 (adXP σ α a2 z z2) 1 0 = some (.inr (13, [.int (γ.1 0 + 1), .ref a2, .int (nI (nP σ + 1))])) := by subst hγ; rfl
          rw [hc] at he'
          rw [← Option.some.inj he']
          have ea : (adXP σ α a2 z z2) 1 0 = α 1 0 := A2 (by omega) (by omega) (by omega)
          rw [ea]
          exact ⟨hL1, Or.inl ⟨(fun z => by rcases z with z | z | z <;> exact absurd z.1 (by decide)), ⟨_, hlc⟩, rfl⟩⟩
        · have e : cellX E (adP σ ins fee songs home) γ1 (adXP σ α a2 z z2) 1 j0 = cellX E σ γ α 1 j0 := by
            subst hγ
            match j0, hj with
            | 1, _ => rfl
            | 2, _ => rfl
            | 3, _ => rfl
            | x + 4, _ => simp only [cellX]; rw [if_neg (by omega), if_neg (by omega)]
          rw [e] at he'
          have ea : (adXP σ α a2 z z2) 1 j0 = α 1 j0 := A2 (by omega) (by omega) (by omega)
          rw [ea]
          exact ⟨hkeep 1 j0 e' he' (Or.inl (by decide)) (Or.inr hj), Or.inl ⟨(fun z => by rcases z with z | z | z <;> exact absurd z.1 (by decide)), ⟨e', he'⟩, rfl⟩⟩
      | 2 =>
        by_cases hj : j0 = 0
        · subst hj
          have hc : cellX E (adP σ ins fee songs home) γ1 (adXP σ α a2 z z2) 2 0 = some (arQ E cap2 g2) := by
            subst hγ
            refine (if_pos ⟨by decide, hc2⟩).trans ?_
            show some (arQ E cap2 (fun k => if k < nP σ + 1 then some ((adXP σ α a2 z z2) 3 k) else g2 k)) = _
            congr 2
            funext k
            by_cases hk : k < nP σ
            · rw [if_pos (by omega), hg k hk, A2 (by omega) (by omega) (by omega)]
              exact (if_pos hk).symm
            · by_cases hk2 : k = nP σ
              · subst hk2; rw [if_pos (by omega), hgn, A3_3]
              · rw [if_neg (by omega)]
          rw [hc] at he'
          rw [← Option.some.inj he', A22]
          refine ⟨hL4, ?_⟩
          rcases ha2 with ⟨hz1, hz2⟩ | ⟨hz1, hz2⟩
          · refine Or.inl ⟨fun z => ?_, ⟨_, hac hz2⟩, hz1⟩
            rcases z with z | z | z
            · exact z.2.2 (by rw [hz1]; exact (h3.1 2 0 _ (hac hz2)).2)
            · exact absurd z.1 (by decide)
            · exact absurd z.1 (by decide)
          · exact Or.inr ⟨Or.inl ⟨rfl, rfl, hz1⟩, hz2, hz1⟩
        · have e : cellX E (adP σ ins fee songs home) γ1 (adXP σ α a2 z z2) 2 j0 = cellX E σ γ α 2 j0 := by
            subst hγ
            match j0, hj with
            | 1, _ => rfl
            | 2, _ => rfl
            | 3, _ => rfl
            | x + 4, _ => simp only [cellX]; rw [if_neg (by omega), if_neg (by omega)]
          rw [e] at he'
          have ea : (adXP σ α a2 z z2) 2 j0 = α 2 j0 := A2 (by omega) (by omega) (by omega)
          rw [ea]
          exact ⟨hkeep 2 j0 e' he' (Or.inr hj) (Or.inl (by decide)), Or.inl ⟨fun z => by rcases z with z | z | z; exact hj z.2.1; all_goals exact absurd z.1 (by decide), ⟨e', he'⟩, rfl⟩⟩
      | 3 =>
        by_cases hj : j0 = (nP σ)
        · subst hj
          have hc : cellX E (adP σ ins fee songs home) γ1 (adXP σ α a2 z z2) 3 (nP σ) = some (.inr (5, [.int ins, .int (nI home), .int fee, .int songs, .int 0, .int 0, .ref z2])) := by
            have h9 : nP σ < nP (adP σ ins fee songs home) := Nat.lt_succ_self _
            refine (if_pos h9).trans ?_
            rw [A3_4]
            simp [adP, nP, pIns, pHome, pFee, pSongs, pFeuds, pEarned]
          rw [hc] at he'
          rw [← Option.some.inj he', A3_3]
          exact ⟨hz_z, Or.inr ⟨Or.inr (Or.inl ⟨rfl, rfl⟩), hf_z, hn_z⟩⟩
        · have e : cellX E (adP σ ins fee songs home) γ1 (adXP σ α a2 z z2) 3 j0 = cellX E σ γ α 3 j0 := by
            have eR : ∀ a, (adP σ ins fee songs home).2.1 a j0 = σ.2.1 a j0 := fun a => if_neg (fun z => hj z.2)
            have eN : ∀ a, a ≠ 0 → (adP σ ins fee songs home).1 a j0 = σ.1 a j0 := fun a ha => by
              show (if _ then _ else _) = _
              rw [if_neg (fun z => ha z.1), if_neg (fun z => hj z.2)]
            have eO : pOff (adP σ ins fee songs home) j0 = pOff σ j0 := funext fun x => if_neg hj
            by_cases hjn : j0 < nP σ
            · have h1 : j0 < nP (adP σ ins fee songs home) := Nat.lt_succ_of_lt hjn
              refine (if_pos h1).trans (Eq.trans ?_ (if_pos hjn).symm)
              rw [A2 (i := 4) (j := j0) (by omega) (by omega) (fun z => hj z.2)]
              simp only [nP, nB, nW, pHome, wTown, wBand, wDay, wState, tod, pIns, pFee, pSongs, pFeuds, pEarned, wStart, wLen, wSongs, wTold, wSet, wPrice, wPaid, wLate, bShape, sKey, sEnergy, sMin, sPlayed, eR, eN 1 (by decide), eN 2 (by decide), eN 3 (by decide), eN 4 (by decide), eN 5 (by decide)]
            · have h1 : ¬ j0 < nP (adP σ ins fee songs home) := fun z => by have z : j0 < nP σ + 1 := z; omega
              exact (if_neg h1).trans (if_neg hjn).symm
          rw [e] at he'
          have ea : (adXP σ α a2 z z2) 3 j0 = α 3 j0 := A2 (by omega) (fun z => hj z.2) (by omega)
          rw [ea]
          exact ⟨hkeep 3 j0 e' he' (Or.inl (by decide)) (Or.inl (by decide)), Or.inl ⟨fun z => by rcases z with z | z | z <;> first | exact absurd z.1 (by decide) | exact hj z.2, ⟨e', he'⟩, rfl⟩⟩
      | 4 =>
        by_cases hj : j0 = (nP σ)
        · subst hj
          have hc : cellX E (adP σ ins fee songs home) γ1 (adXP σ α a2 z z2) 4 (nP σ) = some (arZ E 366 (fun _ => 0)) := by
            have h9 : nP σ < nP (adP σ ins fee songs home) := Nat.lt_succ_self _
            refine (if_pos h9).trans ?_
            have e9 : pOff (adP σ ins fee songs home) (nP σ) = fun _ => 0 := funext fun x => if_pos rfl
            rw [e9]; try rfl
          rw [hc] at he'
          rw [← Option.some.inj he', A3_4]
          exact ⟨hz_z2, Or.inr ⟨Or.inr (Or.inr ⟨rfl, rfl⟩), hf_z2, hn_z2⟩⟩
        · have e : cellX E (adP σ ins fee songs home) γ1 (adXP σ α a2 z z2) 4 j0 = cellX E σ γ α 4 j0 := by
            have eR : ∀ a, (adP σ ins fee songs home).2.1 a j0 = σ.2.1 a j0 := fun a => if_neg (fun z => hj z.2)
            have eN : ∀ a, a ≠ 0 → (adP σ ins fee songs home).1 a j0 = σ.1 a j0 := fun a ha => by
              show (if _ then _ else _) = _
              rw [if_neg (fun z => ha z.1), if_neg (fun z => hj z.2)]
            have eO : pOff (adP σ ins fee songs home) j0 = pOff σ j0 := funext fun x => if_neg hj
            by_cases hjn : j0 < nP σ
            · have h1 : j0 < nP (adP σ ins fee songs home) := Nat.lt_succ_of_lt hjn
              refine (if_pos h1).trans (Eq.trans ?_ (if_pos hjn).symm)
              rw [eO]
            · have h1 : ¬ j0 < nP (adP σ ins fee songs home) := fun z => by have z : j0 < nP σ + 1 := z; omega
              exact (if_neg h1).trans (if_neg hjn).symm
          rw [e] at he'
          have ea : (adXP σ α a2 z z2) 4 j0 = α 4 j0 := A2 (by omega) (by omega) (fun z => hj z.2)
          rw [ea]
          exact ⟨hkeep 4 j0 e' he' (Or.inl (by decide)) (Or.inl (by decide)), Or.inl ⟨fun z => by rcases z with z | z | z <;> first | exact absurd z.1 (by decide) | exact hj z.2, ⟨e', he'⟩, rfl⟩⟩
      | 5 =>
        have e : cellX E (adP σ ins fee songs home) γ1 (adXP σ α a2 z z2) 5 j0 = cellX E σ γ α 5 j0 := by subst hγ; rfl
        rw [e] at he'
        have ea : (adXP σ α a2 z z2) 5 j0 = α 5 j0 := A2 (by omega) (by omega) (by omega)
        rw [ea]
        exact ⟨hkeep 5 j0 e' he' (Or.inl (by decide)) (Or.inl (by decide)), Or.inl ⟨(fun z => by rcases z with z | z | z <;> exact absurd z.1 (by decide)), ⟨e', he'⟩, rfl⟩⟩
      | 6 =>
        have e : cellX E (adP σ ins fee songs home) γ1 (adXP σ α a2 z z2) 6 j0 = cellX E σ γ α 6 j0 := by subst hγ; rfl
        rw [e] at he'
        have ea : (adXP σ α a2 z z2) 6 j0 = α 6 j0 := A2 (by omega) (by omega) (by omega)
        rw [ea]
        exact ⟨hkeep 6 j0 e' he' (Or.inl (by decide)) (Or.inl (by decide)), Or.inl ⟨(fun z => by rcases z with z | z | z <;> exact absurd z.1 (by decide)), ⟨e', he'⟩, rfl⟩⟩
      | 7 =>
        have e : cellX E (adP σ ins fee songs home) γ1 (adXP σ α a2 z z2) 7 j0 = cellX E σ γ α 7 j0 := by subst hγ; rfl
        rw [e] at he'
        have ea : (adXP σ α a2 z z2) 7 j0 = α 7 j0 := A2 (by omega) (by omega) (by omega)
        rw [ea]
        exact ⟨hkeep 7 j0 e' he' (Or.inl (by decide)) (Or.inl (by decide)), Or.inl ⟨(fun z => by rcases z with z | z | z <;> exact absurd z.1 (by decide)), ⟨e', he'⟩, rfl⟩⟩
      | 8 =>
        have e : cellX E (adP σ ins fee songs home) γ1 (adXP σ α a2 z z2) 8 j0 = cellX E σ γ α 8 j0 := by subst hγ; rfl
        rw [e] at he'
        have ea : (adXP σ α a2 z z2) 8 j0 = α 8 j0 := A2 (by omega) (by omega) (by omega)
        rw [ea]
        exact ⟨hkeep 8 j0 e' he' (Or.inl (by decide)) (Or.inl (by decide)), Or.inl ⟨(fun z => by rcases z with z | z | z <;> exact absurd z.1 (by decide)), ⟨e', he'⟩, rfl⟩⟩
      | 9 =>
        have e : cellX E (adP σ ins fee songs home) γ1 (adXP σ α a2 z z2) 9 j0 = cellX E σ γ α 9 j0 := by subst hγ; rfl
        rw [e] at he'
        have ea : (adXP σ α a2 z z2) 9 j0 = α 9 j0 := A2 (by omega) (by omega) (by omega)
        rw [ea]
        exact ⟨hkeep 9 j0 e' he' (Or.inl (by decide)) (Or.inl (by decide)), Or.inl ⟨(fun z => by rcases z with z | z | z <;> exact absurd z.1 (by decide)), ⟨e', he'⟩, rfl⟩⟩
      | 10 =>
        have e : cellX E (adP σ ins fee songs home) γ1 (adXP σ α a2 z z2) 10 j0 = cellX E σ γ α 10 j0 := by subst hγ; rfl
        rw [e] at he'
        have ea : (adXP σ α a2 z z2) 10 j0 = α 10 j0 := A2 (by omega) (by omega) (by omega)
        rw [ea]
        exact ⟨hkeep 10 j0 e' he' (Or.inl (by decide)) (Or.inl (by decide)), Or.inl ⟨(fun z => by rcases z with z | z | z <;> exact absurd z.1 (by decide)), ⟨e', he'⟩, rfl⟩⟩
      | 11 =>
        have e : cellX E (adP σ ins fee songs home) γ1 (adXP σ α a2 z z2) 11 j0 = cellX E σ γ α 11 j0 := by
          have e9 : bGiv (adP σ ins fee songs home) j0 = bGiv σ j0 := adP_gv
          show (if j0 < nB σ then some (arI E 6 (bGiv (adP σ ins fee songs home) j0)) else none) = _
          rw [e9]
          rfl
        rw [e] at he'
        have ea : (adXP σ α a2 z z2) 11 j0 = α 11 j0 := A2 (by omega) (by omega) (by omega)
        rw [ea]
        exact ⟨hkeep 11 j0 e' he' (Or.inl (by decide)) (Or.inl (by decide)), Or.inl ⟨(fun z => by rcases z with z | z | z <;> exact absurd z.1 (by decide)), ⟨e', he'⟩, rfl⟩⟩
      | x + 12 => cases he'
    · intro i j0 i' j0' e e' n1 n2 he he' hab
      rcases n1 with ⟨rfl, rfl, m1⟩ | ⟨rfl, rfl⟩ | ⟨rfl, rfl⟩ <;> rcases n2 with ⟨rfl, rfl, m2⟩ | ⟨rfl, rfl⟩ | ⟨rfl, rfl⟩ <;> first | exact ⟨rfl, rfl⟩ | skip
      · rw [A22, A3_3] at hab; exact absurd hab hd_z
      · rw [A22, A3_4] at hab; exact absurd hab hd_z2
      · rw [A3_3, A22] at hab; exact absurd hab.symm hd_z
      · rw [A3_3, A3_4] at hab; exact absurd hab hap_z_z2
      · rw [A3_4, A22] at hab; exact absurd hab.symm hd_z2
      · rw [A3_4, A3_3] at hab; exact absurd hab.symm hap_z_z2

def adXB (σ : St) (α : Nat → Nat → Nat) (a2 z z2 z3 : Nat) : Nat → Nat → Nat := fun i j => if i = 2 ∧ j = 2 then a2 else if i = 9 ∧ j = nB σ then z else if i = 10 ∧ j = nB σ then z2 else if i = 11 ∧ j = nB σ then z3 else α i j
set_option maxHeartbeats 4000000 in
theorem RX.gwB (h : RX D E α F σ H) : ∃ (cap : Nat) (mc : Int32) (g : Nat → Option Nat), LR D E (α 1 2) (α 2 2) (nB σ) cap mc g H ∧ (∀ k, k < nB σ → g k = some (α 9 k)) ∧ F (α 1 2) ∧ (cap ≠ 0 → F (α 2 2)) ∧ cap ≤ 10 + 2 * nB σ ∧ (cap ≠ 0 → α 1 2 ≠ α 2 2) ∧
    ∀ (H1 : Heap) (a2 z z2 z3 cap2 : Nat) (g2 : Nat → Option Nat) (sh : Int32), LR D E (α 1 2) a2 (nB σ + 1) cap2 (mc + 1) g2 H1 → cap2 ≠ 0 → (cap2 ≤ 100 ∧ (cap2 ≤ 2 * nB σ + 10 ∨ cap2 = cap)) → (∀ k, k < nB σ → g2 k = g k) → g2 (nB σ) = some z → ((a2 = α 2 2 ∧ cap ≠ 0) ∨ (¬ F a2 ∧ F' a2)) → (∀ q : Nat, q < H.size → q ≠ α 1 2 → (cap ≠ 0 → q ≠ α 2 2) → H1[q]? = H[q]?) → va_at D vwCl (z, .inr (7, [.ref z2, .ref z3])) H1 → va_at D vwCl (z2, arI E 6 (shNeed sh)) H1 → va_at D vwCl (z3, arI E 6 (fun _ => 0)) H1 → ¬ F z → F' z → ¬ F z2 → F' z2 → ¬ F z3 → F' z3 → a2 ≠ z → a2 ≠ z2 → a2 ≠ z3 → z ≠ z2 → z ≠ z3 → z2 ≠ z3 → (∀ q, F q → F' q) → (∀ q, F' q → E 0 ≤ q) → nB σ < 6 → (∀ x, bGiv σ (nB σ) x = 0) → RX D E (adXB σ α a2 z z2 z3) F' (adB σ sh) H1 := by
  obtain ⟨h1, h0, γ, h2, h3⟩ := h
  obtain ⟨q1, ⟨q2, q2'⟩, q3⟩ := h2 2 (by decide)
  have q2' : γ.2.1 2 ≤ 10 + 2 * nB σ := q2'
  have hlc : cellX E σ γ α 1 2 = some (.inr (13, [.int (γ.1 2), .ref (α 2 2), .int (nI (nB σ))])) := rfl
  have hl := h3.1 1 2 _ hlc
  have hac : γ.2.1 2 ≠ 0 → cellX E σ γ α 2 2 = some (arQ E (γ.2.1 2) (fun k => if k < nB σ then some (α 9 k) else γ.2.2 2 k)) := fun hc0 => if_pos ⟨by decide, hc0⟩
  have hne : γ.2.1 2 ≠ 0 → α 1 2 ≠ α 2 2 := fun hc0 e => by
    have := (h3.2 1 2 2 2 _ _ hlc (hac hc0) e).1
    omega
  refine ⟨γ.2.1 2, γ.1 2, (fun k => if k < nB σ then some (α 9 k) else γ.2.2 2 k), ⟨hl.1, q1, by omega, ?_⟩, (fun k hk => if_pos hk), hl.2, (fun hc0 => (h3.1 2 2 _ (hac hc0)).2), q2', hne, ?_⟩
  · by_cases hc0 : γ.2.1 2 = 0
    · exact Or.inl ⟨hc0, q3 hc0⟩
    · exact Or.inr ⟨hc0, (h3.1 2 2 _ (hac hc0)).1⟩
  · intro H1 a2 z z2 z3 cap2 g2 sh hL hc2 hcb hg hgn ha2 hq hz_z hz_z2 hz_z3 hn_z hf_z hn_z2 hf_z2 hn_z3 hf_z3 hd_z hd_z2 hd_z3 hap_z_z2 hap_z_z3 hap_z2_z3 hFF hE hy0 hy1
    have hkeep : ∀ i j e, cellX E σ γ α i j = some e → (i ≠ 2 ∨ j ≠ 2) → (i ≠ 1 ∨ j ≠ 2) → va_at D vwCl (α i j, e) H1 := by
      intro i j e he hij hij1
      refine (h3.1 i j e he).1.kept (hq _ (h3.1 i j e he).1.lt (fun z => ?_) (fun hc0 z => ?_))
      · have := h3.2 i j 1 2 _ _ he hlc z
        omega
      · have := h3.2 i j 2 2 _ _ he (hac hc0) z
        omega
    obtain ⟨hL1, hL2, hL3, hL4⟩ := hL
    have hL4 : va_at D vwCl (a2, arQ E cap2 g2) H1 := hL4.elim (fun z => absurd z.1 hc2) (fun z => z.2)
    have A2 : ∀ {i j}, ¬ (i = 2 ∧ j = 2) → ¬ (i = 9 ∧ j = nB σ) → ¬ (i = 10 ∧ j = nB σ) → ¬ (i = 11 ∧ j = nB σ) → (adXB σ α a2 z z2 z3) i j = α i j := by
      intro i j n0 n1 n2 n3
      unfold adXB
      rw [if_neg n0, if_neg n1, if_neg n2, if_neg n3]
    have A22 : (adXB σ α a2 z z2 z3) 2 2 = a2 := if_pos ⟨rfl, rfl⟩
    have A3_9 : (adXB σ α a2 z z2 z3) 9 (nB σ) = z := by
      unfold adXB
      rw [if_neg (by omega), if_pos ⟨rfl, rfl⟩]
    have A3_10 : (adXB σ α a2 z z2 z3) 10 (nB σ) = z2 := by
      unfold adXB
      rw [if_neg (by omega), if_neg (by omega), if_pos ⟨rfl, rfl⟩]
    have A3_11 : (adXB σ α a2 z z2 z3) 11 (nB σ) = z3 := by
      unfold adXB
      rw [if_neg (by omega), if_neg (by omega), if_neg (by omega), if_pos ⟨rfl, rfl⟩]
    obtain ⟨γ1, hγ⟩ : ∃ γ1 : Gh, γ1 = ((fun i => if i = 2 then γ.1 2 + 1 else γ.1 i, fun i => if i = 2 then cap2 else γ.2.1 i, fun i k => if i = 2 then g2 k else γ.2.2 i k) : Gh) := ⟨_, rfl⟩
    have hls : xLs E (adB σ sh) γ1 (adXB σ α a2 z z2 z3) := by
      intro j0 hj4
      subst hγ
      by_cases hj : j0 = 2
      · subst hj
        refine ⟨?_, ?_, ?_⟩
        · show nB σ + 1 ≤ cap2
          exact hL2
        · show cap2 ≤ 100 ∧ cap2 ≤ 10 + 2 * (nB σ + 1)
          omega
        · intro z
          exact absurd z hc2
      · have e1 : xCnt (adB σ sh) j0 = xCnt σ j0 := by
          match j0, hj with
          | 0, _ => rfl
          | 1, _ => rfl
          | 3, _ => rfl
          | x + 4, _ => exact absurd hj4 (by omega)
        have e2 : (adXB σ α a2 z z2 z3) 2 j0 = α 2 j0 := A2 (fun z => hj z.2) (fun z => absurd z.1 (by decide)) (fun z => absurd z.1 (by decide)) (fun z => absurd z.1 (by decide))
        rw [e1, e2]
        refine ⟨?_, ?_, ?_⟩
        · show xCnt σ j0 ≤ (if j0 = 2 then cap2 else γ.2.1 j0)
          rw [if_neg hj]; exact (h2 j0 hj4).1
        · show (if j0 = 2 then cap2 else γ.2.1 j0) ≤ 100 ∧ (if j0 = 2 then cap2 else γ.2.1 j0) ≤ 10 + 2 * xCnt σ j0
          rw [if_neg hj]; exact (h2 j0 hj4).2.1
        · show (if j0 = 2 then cap2 else γ.2.1 j0) = 0 → _
          rw [if_neg hj]; exact (h2 j0 hj4).2.2
    refine ⟨adB_RI h1 hy0, hE, γ1, hls, Rep.re (fun i j0 => (i = 2 ∧ j0 = 2 ∧ ¬ F a2) ∨ (i = 9 ∧ j0 = (nB σ)) ∨ (i = 10 ∧ j0 = (nB σ)) ∨ (i = 11 ∧ j0 = (nB σ))) h3 hFF (fun i j0 e' he' => ?_) ?_⟩
    · match i with
      | 0 =>
        have e : cellX E (adB σ sh) γ1 (adXB σ α a2 z z2 z3) 0 j0 = cellX E σ γ α 0 j0 := by subst hγ; rfl
        rw [e] at he'
        have ea : (adXB σ α a2 z z2 z3) 0 j0 = α 0 j0 := A2 (by omega) (by omega) (by omega) (by omega)
        rw [ea]
        exact ⟨hkeep 0 j0 e' he' (Or.inl (by decide)) (Or.inl (by decide)), Or.inl ⟨(fun z => by rcases z with z | z | z | z <;> exact absurd z.1 (by decide)), ⟨e', he'⟩, rfl⟩⟩
      | 1 =>
        by_cases hj : j0 = 2
        · subst hj
          have hc : cellX E (adB σ sh) γ1 (adXB σ α a2 z z2 z3) 1 2 = some (.inr (13, [.int (γ.1 2 + 1), .ref a2, .int (nI (nB σ + 1))])) := by subst hγ; rfl
          rw [hc] at he'
          rw [← Option.some.inj he']
          have ea : (adXB σ α a2 z z2 z3) 1 2 = α 1 2 := A2 (by omega) (by omega) (by omega) (by omega)
          rw [ea]
          exact ⟨hL1, Or.inl ⟨(fun z => by rcases z with z | z | z | z <;> exact absurd z.1 (by decide)), ⟨_, hlc⟩, rfl⟩⟩
        · have e : cellX E (adB σ sh) γ1 (adXB σ α a2 z z2 z3) 1 j0 = cellX E σ γ α 1 j0 := by
            subst hγ
            match j0, hj with
            | 0, _ => rfl
            | 1, _ => rfl
            | 3, _ => rfl
            | x + 4, _ => simp only [cellX]; rw [if_neg (by omega), if_neg (by omega)]
          rw [e] at he'
          have ea : (adXB σ α a2 z z2 z3) 1 j0 = α 1 j0 := A2 (by omega) (by omega) (by omega) (by omega)
          rw [ea]
          exact ⟨hkeep 1 j0 e' he' (Or.inl (by decide)) (Or.inr hj), Or.inl ⟨(fun z => by rcases z with z | z | z | z <;> exact absurd z.1 (by decide)), ⟨e', he'⟩, rfl⟩⟩
      | 2 =>
        by_cases hj : j0 = 2
        · subst hj
          have hc : cellX E (adB σ sh) γ1 (adXB σ α a2 z z2 z3) 2 2 = some (arQ E cap2 g2) := by
            subst hγ
            refine (if_pos ⟨by decide, hc2⟩).trans ?_
            show some (arQ E cap2 (fun k => if k < nB σ + 1 then some ((adXB σ α a2 z z2 z3) 9 k) else g2 k)) = _
            congr 2
            funext k
            by_cases hk : k < nB σ
            · rw [if_pos (by omega), hg k hk, A2 (by omega) (by omega) (by omega) (by omega)]
              exact (if_pos hk).symm
            · by_cases hk2 : k = nB σ
              · subst hk2; rw [if_pos (by omega), hgn, A3_9]
              · rw [if_neg (by omega)]
          rw [hc] at he'
          rw [← Option.some.inj he', A22]
          refine ⟨hL4, ?_⟩
          rcases ha2 with ⟨hz1, hz2⟩ | ⟨hz1, hz2⟩
          · refine Or.inl ⟨fun z => ?_, ⟨_, hac hz2⟩, hz1⟩
            rcases z with z | z | z | z
            · exact z.2.2 (by rw [hz1]; exact (h3.1 2 2 _ (hac hz2)).2)
            · exact absurd z.1 (by decide)
            · exact absurd z.1 (by decide)
            · exact absurd z.1 (by decide)
          · exact Or.inr ⟨Or.inl ⟨rfl, rfl, hz1⟩, hz2, hz1⟩
        · have e : cellX E (adB σ sh) γ1 (adXB σ α a2 z z2 z3) 2 j0 = cellX E σ γ α 2 j0 := by
            subst hγ
            match j0, hj with
            | 0, _ => rfl
            | 1, _ => rfl
            | 3, _ => rfl
            | x + 4, _ => simp only [cellX]; rw [if_neg (by omega), if_neg (by omega)]
          rw [e] at he'
          have ea : (adXB σ α a2 z z2 z3) 2 j0 = α 2 j0 := A2 (by omega) (by omega) (by omega) (by omega)
          rw [ea]
          exact ⟨hkeep 2 j0 e' he' (Or.inr hj) (Or.inl (by decide)), Or.inl ⟨fun z => by rcases z with z | z | z | z; exact hj z.2.1; all_goals exact absurd z.1 (by decide), ⟨e', he'⟩, rfl⟩⟩
      | 3 =>
        have e : cellX E (adB σ sh) γ1 (adXB σ α a2 z z2 z3) 3 j0 = cellX E σ γ α 3 j0 := by subst hγ; rfl
        rw [e] at he'
        have ea : (adXB σ α a2 z z2 z3) 3 j0 = α 3 j0 := A2 (by omega) (by omega) (by omega) (by omega)
        rw [ea]
        exact ⟨hkeep 3 j0 e' he' (Or.inl (by decide)) (Or.inl (by decide)), Or.inl ⟨(fun z => by rcases z with z | z | z | z <;> exact absurd z.1 (by decide)), ⟨e', he'⟩, rfl⟩⟩
      | 4 =>
        have e : cellX E (adB σ sh) γ1 (adXB σ α a2 z z2 z3) 4 j0 = cellX E σ γ α 4 j0 := by subst hγ; rfl
        rw [e] at he'
        have ea : (adXB σ α a2 z z2 z3) 4 j0 = α 4 j0 := A2 (by omega) (by omega) (by omega) (by omega)
        rw [ea]
        exact ⟨hkeep 4 j0 e' he' (Or.inl (by decide)) (Or.inl (by decide)), Or.inl ⟨(fun z => by rcases z with z | z | z | z <;> exact absurd z.1 (by decide)), ⟨e', he'⟩, rfl⟩⟩
      | 5 =>
        have e : cellX E (adB σ sh) γ1 (adXB σ α a2 z z2 z3) 5 j0 = cellX E σ γ α 5 j0 := by subst hγ; rfl
        rw [e] at he'
        have ea : (adXB σ α a2 z z2 z3) 5 j0 = α 5 j0 := A2 (by omega) (by omega) (by omega) (by omega)
        rw [ea]
        exact ⟨hkeep 5 j0 e' he' (Or.inl (by decide)) (Or.inl (by decide)), Or.inl ⟨(fun z => by rcases z with z | z | z | z <;> exact absurd z.1 (by decide)), ⟨e', he'⟩, rfl⟩⟩
      | 6 =>
        have e : cellX E (adB σ sh) γ1 (adXB σ α a2 z z2 z3) 6 j0 = cellX E σ γ α 6 j0 := by subst hγ; rfl
        rw [e] at he'
        have ea : (adXB σ α a2 z z2 z3) 6 j0 = α 6 j0 := A2 (by omega) (by omega) (by omega) (by omega)
        rw [ea]
        exact ⟨hkeep 6 j0 e' he' (Or.inl (by decide)) (Or.inl (by decide)), Or.inl ⟨(fun z => by rcases z with z | z | z | z <;> exact absurd z.1 (by decide)), ⟨e', he'⟩, rfl⟩⟩
      | 7 =>
        have e : cellX E (adB σ sh) γ1 (adXB σ α a2 z z2 z3) 7 j0 = cellX E σ γ α 7 j0 := by subst hγ; rfl
        rw [e] at he'
        have ea : (adXB σ α a2 z z2 z3) 7 j0 = α 7 j0 := A2 (by omega) (by omega) (by omega) (by omega)
        rw [ea]
        exact ⟨hkeep 7 j0 e' he' (Or.inl (by decide)) (Or.inl (by decide)), Or.inl ⟨(fun z => by rcases z with z | z | z | z <;> exact absurd z.1 (by decide)), ⟨e', he'⟩, rfl⟩⟩
      | 8 =>
        have e : cellX E (adB σ sh) γ1 (adXB σ α a2 z z2 z3) 8 j0 = cellX E σ γ α 8 j0 := by subst hγ; rfl
        rw [e] at he'
        have ea : (adXB σ α a2 z z2 z3) 8 j0 = α 8 j0 := A2 (by omega) (by omega) (by omega) (by omega)
        rw [ea]
        exact ⟨hkeep 8 j0 e' he' (Or.inl (by decide)) (Or.inl (by decide)), Or.inl ⟨(fun z => by rcases z with z | z | z | z <;> exact absurd z.1 (by decide)), ⟨e', he'⟩, rfl⟩⟩
      | 9 =>
        by_cases hj : j0 = (nB σ)
        · subst hj
          have hc : cellX E (adB σ sh) γ1 (adXB σ α a2 z z2 z3) 9 (nB σ) = some (.inr (7, [.ref z2, .ref z3])) := by
            have h9 : nB σ < nB (adB σ sh) := Nat.lt_succ_self _
            refine (if_pos h9).trans ?_
            rw [A3_10, A3_11]
          rw [hc] at he'
          rw [← Option.some.inj he', A3_9]
          exact ⟨hz_z, Or.inr ⟨Or.inr (Or.inl ⟨rfl, rfl⟩), hf_z, hn_z⟩⟩
        · have e : cellX E (adB σ sh) γ1 (adXB σ α a2 z z2 z3) 9 j0 = cellX E σ γ α 9 j0 := by
            have eR : ∀ a, (adB σ sh).2.1 a j0 = σ.2.1 a j0 := fun a => if_neg (fun z => hj z.2)
            have eN : ∀ a, a ≠ 0 → (adB σ sh).1 a j0 = σ.1 a j0 := fun a ha => by
              show (if _ then _ else _) = _
              rw [if_neg (fun z => ha z.1)]
            by_cases hjn : j0 < nB σ
            · have h1 : j0 < nB (adB σ sh) := Nat.lt_succ_of_lt hjn
              refine (if_pos h1).trans (Eq.trans ?_ (if_pos hjn).symm)
              rw [A2 (i := 10) (j := j0) (by omega) (by omega) (fun z => hj z.2) (by omega), A2 (i := 11) (j := j0) (by omega) (by omega) (by omega) (fun z => hj z.2)]
            · have h1 : ¬ j0 < nB (adB σ sh) := fun z => by have z : j0 < nB σ + 1 := z; omega
              exact (if_neg h1).trans (if_neg hjn).symm
          rw [e] at he'
          have ea : (adXB σ α a2 z z2 z3) 9 j0 = α 9 j0 := A2 (by omega) (fun z => hj z.2) (by omega) (by omega)
          rw [ea]
          exact ⟨hkeep 9 j0 e' he' (Or.inl (by decide)) (Or.inl (by decide)), Or.inl ⟨fun z => by rcases z with z | z | z | z <;> first | exact absurd z.1 (by decide) | exact hj z.2, ⟨e', he'⟩, rfl⟩⟩
      | 10 =>
        by_cases hj : j0 = (nB σ)
        · subst hj
          have hc : cellX E (adB σ sh) γ1 (adXB σ α a2 z z2 z3) 10 (nB σ) = some (arI E 6 (shNeed sh)) := by
            have h9 : nB σ < nB (adB σ sh) := Nat.lt_succ_self _
            refine (if_pos h9).trans ?_
            rw [adB_ndn]; try rfl
          rw [hc] at he'
          rw [← Option.some.inj he', A3_10]
          exact ⟨hz_z2, Or.inr ⟨Or.inr (Or.inr (Or.inl ⟨rfl, rfl⟩)), hf_z2, hn_z2⟩⟩
        · have e : cellX E (adB σ sh) γ1 (adXB σ α a2 z z2 z3) 10 j0 = cellX E σ γ α 10 j0 := by
            have eR : ∀ a, (adB σ sh).2.1 a j0 = σ.2.1 a j0 := fun a => if_neg (fun z => hj z.2)
            have eN : ∀ a, a ≠ 0 → (adB σ sh).1 a j0 = σ.1 a j0 := fun a ha => by
              show (if _ then _ else _) = _
              rw [if_neg (fun z => ha z.1)]
            by_cases hjn : j0 < nB σ
            · have h1 : j0 < nB (adB σ sh) := Nat.lt_succ_of_lt hjn
              refine (if_pos h1).trans (Eq.trans ?_ (if_pos hjn).symm)
              rw [adB_nd hj]
            · have h1 : ¬ j0 < nB (adB σ sh) := fun z => by have z : j0 < nB σ + 1 := z; omega
              exact (if_neg h1).trans (if_neg hjn).symm
          rw [e] at he'
          have ea : (adXB σ α a2 z z2 z3) 10 j0 = α 10 j0 := A2 (by omega) (by omega) (fun z => hj z.2) (by omega)
          rw [ea]
          exact ⟨hkeep 10 j0 e' he' (Or.inl (by decide)) (Or.inl (by decide)), Or.inl ⟨fun z => by rcases z with z | z | z | z <;> first | exact absurd z.1 (by decide) | exact hj z.2, ⟨e', he'⟩, rfl⟩⟩
      | 11 =>
        by_cases hj : j0 = (nB σ)
        · subst hj
          have hc : cellX E (adB σ sh) γ1 (adXB σ α a2 z z2 z3) 11 (nB σ) = some (arI E 6 (fun _ => 0)) := by
            have h9 : nB σ < nB (adB σ sh) := Nat.lt_succ_self _
            refine (if_pos h9).trans ?_
            have e9 : bGiv (adB σ sh) (nB σ) = fun _ => 0 := by rw [adB_gv]; funext x; exact hy1 x
            rw [e9]; try rfl
          rw [hc] at he'
          rw [← Option.some.inj he', A3_11]
          exact ⟨hz_z3, Or.inr ⟨Or.inr (Or.inr (Or.inr ⟨rfl, rfl⟩)), hf_z3, hn_z3⟩⟩
        · have e : cellX E (adB σ sh) γ1 (adXB σ α a2 z z2 z3) 11 j0 = cellX E σ γ α 11 j0 := by
            have eR : ∀ a, (adB σ sh).2.1 a j0 = σ.2.1 a j0 := fun a => if_neg (fun z => hj z.2)
            have eN : ∀ a, a ≠ 0 → (adB σ sh).1 a j0 = σ.1 a j0 := fun a ha => by
              show (if _ then _ else _) = _
              rw [if_neg (fun z => ha z.1)]
            by_cases hjn : j0 < nB σ
            · have h1 : j0 < nB (adB σ sh) := Nat.lt_succ_of_lt hjn
              refine (if_pos h1).trans (Eq.trans ?_ (if_pos hjn).symm)
              rw [adB_gv]
            · have h1 : ¬ j0 < nB (adB σ sh) := fun z => by have z : j0 < nB σ + 1 := z; omega
              exact (if_neg h1).trans (if_neg hjn).symm
          rw [e] at he'
          have ea : (adXB σ α a2 z z2 z3) 11 j0 = α 11 j0 := A2 (by omega) (by omega) (by omega) (fun z => hj z.2)
          rw [ea]
          exact ⟨hkeep 11 j0 e' he' (Or.inl (by decide)) (Or.inl (by decide)), Or.inl ⟨fun z => by rcases z with z | z | z | z <;> first | exact absurd z.1 (by decide) | exact hj z.2, ⟨e', he'⟩, rfl⟩⟩
      | x + 12 => cases he'
    · intro i j0 i' j0' e e' n1 n2 he he' hab
      rcases n1 with ⟨rfl, rfl, m1⟩ | ⟨rfl, rfl⟩ | ⟨rfl, rfl⟩ | ⟨rfl, rfl⟩ <;> rcases n2 with ⟨rfl, rfl, m2⟩ | ⟨rfl, rfl⟩ | ⟨rfl, rfl⟩ | ⟨rfl, rfl⟩ <;> first | exact ⟨rfl, rfl⟩ | skip
      · rw [A22, A3_9] at hab; exact absurd hab hd_z
      · rw [A22, A3_10] at hab; exact absurd hab hd_z2
      · rw [A22, A3_11] at hab; exact absurd hab hd_z3
      · rw [A3_9, A22] at hab; exact absurd hab.symm hd_z
      · rw [A3_9, A3_10] at hab; exact absurd hab hap_z_z2
      · rw [A3_9, A3_11] at hab; exact absurd hab hap_z_z3
      · rw [A3_10, A22] at hab; exact absurd hab.symm hd_z2
      · rw [A3_10, A3_9] at hab; exact absurd hab.symm hap_z_z2
      · rw [A3_10, A3_11] at hab; exact absurd hab hap_z2_z3
      · rw [A3_11, A22] at hab; exact absurd hab.symm hd_z3
      · rw [A3_11, A3_9] at hab; exact absurd hab.symm hap_z_z3
      · rw [A3_11, A3_10] at hab; exact absurd hab.symm hap_z2_z3

def adXW (σ : St) (α : Nat → Nat → Nat) (a2 z : Nat) : Nat → Nat → Nat := fun i j => if i = 2 ∧ j = 3 then a2 else if i = 5 ∧ j = nW σ then z else α i j
set_option maxHeartbeats 4000000 in
theorem RX.gwW (h : RX D E α F σ H) : ∃ (cap : Nat) (mc : Int32) (g : Nat → Option Nat), LR D E (α 1 3) (α 2 3) (nW σ) cap mc g H ∧ (∀ k, k < nW σ → g k = some (α 5 k)) ∧ F (α 1 3) ∧ (cap ≠ 0 → F (α 2 3)) ∧ cap ≤ 10 + 2 * nW σ ∧ (cap ≠ 0 → α 1 3 ≠ α 2 3) ∧
    ∀ (H1 : Heap) (a2 z cap2 : Nat) (g2 : Nat → Option Nat) (band day town : Nat) (start len songs told : Int32), LR D E (α 1 3) a2 (nW σ + 1) cap2 (mc + 1) g2 H1 → cap2 ≠ 0 → (cap2 ≤ 100 ∧ (cap2 ≤ 2 * nW σ + 10 ∨ cap2 = cap)) → (∀ k, k < nW σ → g2 k = g k) → g2 (nW σ) = some z → ((a2 = α 2 3 ∧ cap ≠ 0) ∨ (¬ F a2 ∧ F' a2)) → (∀ q : Nat, q < H.size → q ≠ α 1 3 → (cap ≠ 0 → q ≠ α 2 3) → H1[q]? = H[q]?) → va_at D vwCl (z, .inr (8, [.int (nI band), .int (nI day), .int (nI town), .int start, .int len, .int songs, .int told, .ref (E (10 + 0)), .int 0, .int 0, .int 0, .int 0])) H1 → ¬ F z → F' z → a2 ≠ z → (∀ q, F q → F' q) → (∀ q, F' q → E 0 ≤ q) → nW σ < 14 → band < nB σ → day < 366 → town < 6 → RX D E (adXW σ α a2 z) F' (adW σ band day town start len songs told) H1 := by
  obtain ⟨h1, h0, γ, h2, h3⟩ := h
  obtain ⟨q1, ⟨q2, q2'⟩, q3⟩ := h2 3 (by decide)
  have q2' : γ.2.1 3 ≤ 10 + 2 * nW σ := q2'
  have hlc : cellX E σ γ α 1 3 = some (.inr (13, [.int (γ.1 3), .ref (α 2 3), .int (nI (nW σ))])) := rfl
  have hl := h3.1 1 3 _ hlc
  have hac : γ.2.1 3 ≠ 0 → cellX E σ γ α 2 3 = some (arQ E (γ.2.1 3) (fun k => if k < nW σ then some (α 5 k) else γ.2.2 3 k)) := fun hc0 => if_pos ⟨by decide, hc0⟩
  have hne : γ.2.1 3 ≠ 0 → α 1 3 ≠ α 2 3 := fun hc0 e => by
    have := (h3.2 1 3 2 3 _ _ hlc (hac hc0) e).1
    omega
  refine ⟨γ.2.1 3, γ.1 3, (fun k => if k < nW σ then some (α 5 k) else γ.2.2 3 k), ⟨hl.1, q1, by omega, ?_⟩, (fun k hk => if_pos hk), hl.2, (fun hc0 => (h3.1 2 3 _ (hac hc0)).2), q2', hne, ?_⟩
  · by_cases hc0 : γ.2.1 3 = 0
    · exact Or.inl ⟨hc0, q3 hc0⟩
    · exact Or.inr ⟨hc0, (h3.1 2 3 _ (hac hc0)).1⟩
  · intro H1 a2 z cap2 g2 band day town start len songs told hL hc2 hcb hg hgn ha2 hq hz_z hn_z hf_z hd_z hFF hE hy0 hy1 hy2 hy3
    have hkeep : ∀ i j e, cellX E σ γ α i j = some e → (i ≠ 2 ∨ j ≠ 3) → (i ≠ 1 ∨ j ≠ 3) → va_at D vwCl (α i j, e) H1 := by
      intro i j e he hij hij1
      refine (h3.1 i j e he).1.kept (hq _ (h3.1 i j e he).1.lt (fun z => ?_) (fun hc0 z => ?_))
      · have := h3.2 i j 1 3 _ _ he hlc z
        omega
      · have := h3.2 i j 2 3 _ _ he (hac hc0) z
        omega
    obtain ⟨hL1, hL2, hL3, hL4⟩ := hL
    have hL4 : va_at D vwCl (a2, arQ E cap2 g2) H1 := hL4.elim (fun z => absurd z.1 hc2) (fun z => z.2)
    have A2 : ∀ {i j}, ¬ (i = 2 ∧ j = 3) → ¬ (i = 5 ∧ j = nW σ) → (adXW σ α a2 z) i j = α i j := by
      intro i j n0 n1
      unfold adXW
      rw [if_neg n0, if_neg n1]
    have A22 : (adXW σ α a2 z) 2 3 = a2 := if_pos ⟨rfl, rfl⟩
    have A3_5 : (adXW σ α a2 z) 5 (nW σ) = z := by
      unfold adXW
      rw [if_neg (by omega), if_pos ⟨rfl, rfl⟩]
    obtain ⟨γ1, hγ⟩ : ∃ γ1 : Gh, γ1 = ((fun i => if i = 3 then γ.1 3 + 1 else γ.1 i, fun i => if i = 3 then cap2 else γ.2.1 i, fun i k => if i = 3 then g2 k else γ.2.2 i k) : Gh) := ⟨_, rfl⟩
    have hls : xLs E (adW σ band day town start len songs told) γ1 (adXW σ α a2 z) := by
      intro j0 hj4
      subst hγ
      by_cases hj : j0 = 3
      · subst hj
        refine ⟨?_, ?_, ?_⟩
        · show nW σ + 1 ≤ cap2
          exact hL2
        · show cap2 ≤ 100 ∧ cap2 ≤ 10 + 2 * (nW σ + 1)
          omega
        · intro z
          exact absurd z hc2
      · have e1 : xCnt (adW σ band day town start len songs told) j0 = xCnt σ j0 := by
          match j0, hj with
          | 0, _ => rfl
          | 1, _ => rfl
          | 2, _ => rfl
          | x + 4, _ => exact absurd hj4 (by omega)
        have e2 : (adXW σ α a2 z) 2 j0 = α 2 j0 := A2 (fun z => hj z.2) (fun z => absurd z.1 (by decide))
        rw [e1, e2]
        refine ⟨?_, ?_, ?_⟩
        · show xCnt σ j0 ≤ (if j0 = 3 then cap2 else γ.2.1 j0)
          rw [if_neg hj]; exact (h2 j0 hj4).1
        · show (if j0 = 3 then cap2 else γ.2.1 j0) ≤ 100 ∧ (if j0 = 3 then cap2 else γ.2.1 j0) ≤ 10 + 2 * xCnt σ j0
          rw [if_neg hj]; exact (h2 j0 hj4).2.1
        · show (if j0 = 3 then cap2 else γ.2.1 j0) = 0 → _
          rw [if_neg hj]; exact (h2 j0 hj4).2.2
    refine ⟨adW_RI h1 hy0 hy1 hy2 hy3, hE, γ1, hls, Rep.re (fun i j0 => (i = 2 ∧ j0 = 3 ∧ ¬ F a2) ∨ (i = 5 ∧ j0 = (nW σ))) h3 hFF (fun i j0 e' he' => ?_) ?_⟩
    · match i with
      | 0 =>
        have e : cellX E (adW σ band day town start len songs told) γ1 (adXW σ α a2 z) 0 j0 = cellX E σ γ α 0 j0 := by subst hγ; rfl
        rw [e] at he'
        have ea : (adXW σ α a2 z) 0 j0 = α 0 j0 := A2 (by omega) (by omega)
        rw [ea]
        exact ⟨hkeep 0 j0 e' he' (Or.inl (by decide)) (Or.inl (by decide)), Or.inl ⟨(fun z => by rcases z with z | z <;> exact absurd z.1 (by decide)), ⟨e', he'⟩, rfl⟩⟩
      | 1 =>
        by_cases hj : j0 = 3
        · subst hj
          have hc : cellX E (adW σ band day town start len songs told) γ1 (adXW σ α a2 z) 1 3 = some (.inr (13, [.int (γ.1 3 + 1), .ref a2, .int (nI (nW σ + 1))])) := by subst hγ; rfl
          rw [hc] at he'
          rw [← Option.some.inj he']
          have ea : (adXW σ α a2 z) 1 3 = α 1 3 := A2 (by omega) (by omega)
          rw [ea]
          exact ⟨hL1, Or.inl ⟨(fun z => by rcases z with z | z <;> exact absurd z.1 (by decide)), ⟨_, hlc⟩, rfl⟩⟩
        · have e : cellX E (adW σ band day town start len songs told) γ1 (adXW σ α a2 z) 1 j0 = cellX E σ γ α 1 j0 := by
            subst hγ
            match j0, hj with
            | 0, _ => rfl
            | 1, _ => rfl
            | 2, _ => rfl
            | x + 4, _ => simp only [cellX]; rw [if_neg (by omega), if_neg (by omega)]
          rw [e] at he'
          have ea : (adXW σ α a2 z) 1 j0 = α 1 j0 := A2 (by omega) (by omega)
          rw [ea]
          exact ⟨hkeep 1 j0 e' he' (Or.inl (by decide)) (Or.inr hj), Or.inl ⟨(fun z => by rcases z with z | z <;> exact absurd z.1 (by decide)), ⟨e', he'⟩, rfl⟩⟩
      | 2 =>
        by_cases hj : j0 = 3
        · subst hj
          have hc : cellX E (adW σ band day town start len songs told) γ1 (adXW σ α a2 z) 2 3 = some (arQ E cap2 g2) := by
            subst hγ
            refine (if_pos ⟨by decide, hc2⟩).trans ?_
            show some (arQ E cap2 (fun k => if k < nW σ + 1 then some ((adXW σ α a2 z) 5 k) else g2 k)) = _
            congr 2
            funext k
            by_cases hk : k < nW σ
            · rw [if_pos (by omega), hg k hk, A2 (by omega) (by omega)]
              exact (if_pos hk).symm
            · by_cases hk2 : k = nW σ
              · subst hk2; rw [if_pos (by omega), hgn, A3_5]
              · rw [if_neg (by omega)]
          rw [hc] at he'
          rw [← Option.some.inj he', A22]
          refine ⟨hL4, ?_⟩
          rcases ha2 with ⟨hz1, hz2⟩ | ⟨hz1, hz2⟩
          · refine Or.inl ⟨fun z => ?_, ⟨_, hac hz2⟩, hz1⟩
            rcases z with z | z
            · exact z.2.2 (by rw [hz1]; exact (h3.1 2 3 _ (hac hz2)).2)
            · exact absurd z.1 (by decide)
          · exact Or.inr ⟨Or.inl ⟨rfl, rfl, hz1⟩, hz2, hz1⟩
        · have e : cellX E (adW σ band day town start len songs told) γ1 (adXW σ α a2 z) 2 j0 = cellX E σ γ α 2 j0 := by
            subst hγ
            match j0, hj with
            | 0, _ => rfl
            | 1, _ => rfl
            | 2, _ => rfl
            | x + 4, _ => simp only [cellX]; rw [if_neg (by omega), if_neg (by omega)]
          rw [e] at he'
          have ea : (adXW σ α a2 z) 2 j0 = α 2 j0 := A2 (by omega) (by omega)
          rw [ea]
          exact ⟨hkeep 2 j0 e' he' (Or.inr hj) (Or.inl (by decide)), Or.inl ⟨fun z => by rcases z with z | z; exact hj z.2.1; all_goals exact absurd z.1 (by decide), ⟨e', he'⟩, rfl⟩⟩
      | 3 =>
        have e : cellX E (adW σ band day town start len songs told) γ1 (adXW σ α a2 z) 3 j0 = cellX E σ γ α 3 j0 := by subst hγ; rfl
        rw [e] at he'
        have ea : (adXW σ α a2 z) 3 j0 = α 3 j0 := A2 (by omega) (by omega)
        rw [ea]
        exact ⟨hkeep 3 j0 e' he' (Or.inl (by decide)) (Or.inl (by decide)), Or.inl ⟨(fun z => by rcases z with z | z <;> exact absurd z.1 (by decide)), ⟨e', he'⟩, rfl⟩⟩
      | 4 =>
        have e : cellX E (adW σ band day town start len songs told) γ1 (adXW σ α a2 z) 4 j0 = cellX E σ γ α 4 j0 := by subst hγ; rfl
        rw [e] at he'
        have ea : (adXW σ α a2 z) 4 j0 = α 4 j0 := A2 (by omega) (by omega)
        rw [ea]
        exact ⟨hkeep 4 j0 e' he' (Or.inl (by decide)) (Or.inl (by decide)), Or.inl ⟨(fun z => by rcases z with z | z <;> exact absurd z.1 (by decide)), ⟨e', he'⟩, rfl⟩⟩
      | 5 =>
        by_cases hj : j0 = (nW σ)
        · subst hj
          have hc : cellX E (adW σ band day town start len songs told) γ1 (adXW σ α a2 z) 5 (nW σ) = some (.inr (8, [.int (nI band), .int (nI day), .int (nI town), .int start, .int len, .int songs, .int told, .ref (E (10 + 0)), .int 0, .int 0, .int 0, .int 0])) := by
            have h9 : nW σ < nW (adW σ band day town start len songs told) := Nat.lt_succ_self _
            refine (if_pos h9).trans ?_
            simp [adW, nW, wBand, wDay, wTown, wState, wStart, wLen, wSongs, wTold, wSet, wPrice, wPaid, wLate]
          rw [hc] at he'
          rw [← Option.some.inj he', A3_5]
          exact ⟨hz_z, Or.inr ⟨Or.inr ⟨rfl, rfl⟩, hf_z, hn_z⟩⟩
        · have e : cellX E (adW σ band day town start len songs told) γ1 (adXW σ α a2 z) 5 j0 = cellX E σ γ α 5 j0 := by
            have eR : ∀ a, (adW σ band day town start len songs told).2.1 a j0 = σ.2.1 a j0 := fun a => if_neg (fun z => hj z.2)
            have eN : ∀ a, a ≠ 0 → (adW σ band day town start len songs told).1 a j0 = σ.1 a j0 := fun a ha => by
              show (if _ then _ else _) = _
              rw [if_neg (fun z => ha z.1), if_neg (fun z => hj z.2)]
            by_cases hjn : j0 < nW σ
            · have h1 : j0 < nW (adW σ band day town start len songs told) := Nat.lt_succ_of_lt hjn
              refine (if_pos h1).trans (Eq.trans ?_ (if_pos hjn).symm)
              simp only [nP, nB, nW, pHome, wTown, wBand, wDay, wState, tod, pIns, pFee, pSongs, pFeuds, pEarned, wStart, wLen, wSongs, wTold, wSet, wPrice, wPaid, wLate, bShape, sKey, sEnergy, sMin, sPlayed, eR, eN 1 (by decide), eN 2 (by decide), eN 3 (by decide), eN 4 (by decide), eN 5 (by decide)]
            · have h1 : ¬ j0 < nW (adW σ band day town start len songs told) := fun z => by have z : j0 < nW σ + 1 := z; omega
              exact (if_neg h1).trans (if_neg hjn).symm
          rw [e] at he'
          have ea : (adXW σ α a2 z) 5 j0 = α 5 j0 := A2 (by omega) (fun z => hj z.2)
          rw [ea]
          exact ⟨hkeep 5 j0 e' he' (Or.inl (by decide)) (Or.inl (by decide)), Or.inl ⟨fun z => by rcases z with z | z <;> first | exact absurd z.1 (by decide) | exact hj z.2, ⟨e', he'⟩, rfl⟩⟩
      | 6 =>
        have e : cellX E (adW σ band day town start len songs told) γ1 (adXW σ α a2 z) 6 j0 = cellX E σ γ α 6 j0 := by subst hγ; rfl
        rw [e] at he'
        have ea : (adXW σ α a2 z) 6 j0 = α 6 j0 := A2 (by omega) (by omega)
        rw [ea]
        exact ⟨hkeep 6 j0 e' he' (Or.inl (by decide)) (Or.inl (by decide)), Or.inl ⟨(fun z => by rcases z with z | z <;> exact absurd z.1 (by decide)), ⟨e', he'⟩, rfl⟩⟩
      | 7 =>
        have e : cellX E (adW σ band day town start len songs told) γ1 (adXW σ α a2 z) 7 j0 = cellX E σ γ α 7 j0 := by subst hγ; rfl
        rw [e] at he'
        have ea : (adXW σ α a2 z) 7 j0 = α 7 j0 := A2 (by omega) (by omega)
        rw [ea]
        exact ⟨hkeep 7 j0 e' he' (Or.inl (by decide)) (Or.inl (by decide)), Or.inl ⟨(fun z => by rcases z with z | z <;> exact absurd z.1 (by decide)), ⟨e', he'⟩, rfl⟩⟩
      | 8 =>
        have e : cellX E (adW σ band day town start len songs told) γ1 (adXW σ α a2 z) 8 j0 = cellX E σ γ α 8 j0 := by subst hγ; rfl
        rw [e] at he'
        have ea : (adXW σ α a2 z) 8 j0 = α 8 j0 := A2 (by omega) (by omega)
        rw [ea]
        exact ⟨hkeep 8 j0 e' he' (Or.inl (by decide)) (Or.inl (by decide)), Or.inl ⟨(fun z => by rcases z with z | z <;> exact absurd z.1 (by decide)), ⟨e', he'⟩, rfl⟩⟩
      | 9 =>
        have e : cellX E (adW σ band day town start len songs told) γ1 (adXW σ α a2 z) 9 j0 = cellX E σ γ α 9 j0 := by subst hγ; rfl
        rw [e] at he'
        have ea : (adXW σ α a2 z) 9 j0 = α 9 j0 := A2 (by omega) (by omega)
        rw [ea]
        exact ⟨hkeep 9 j0 e' he' (Or.inl (by decide)) (Or.inl (by decide)), Or.inl ⟨(fun z => by rcases z with z | z <;> exact absurd z.1 (by decide)), ⟨e', he'⟩, rfl⟩⟩
      | 10 =>
        have e : cellX E (adW σ band day town start len songs told) γ1 (adXW σ α a2 z) 10 j0 = cellX E σ γ α 10 j0 := by subst hγ; rfl
        rw [e] at he'
        have ea : (adXW σ α a2 z) 10 j0 = α 10 j0 := A2 (by omega) (by omega)
        rw [ea]
        exact ⟨hkeep 10 j0 e' he' (Or.inl (by decide)) (Or.inl (by decide)), Or.inl ⟨(fun z => by rcases z with z | z <;> exact absurd z.1 (by decide)), ⟨e', he'⟩, rfl⟩⟩
      | 11 =>
        have e : cellX E (adW σ band day town start len songs told) γ1 (adXW σ α a2 z) 11 j0 = cellX E σ γ α 11 j0 := by
          have e9 : bGiv (adW σ band day town start len songs told) j0 = bGiv σ j0 := adW_gv
          show (if j0 < nB σ then some (arI E 6 (bGiv (adW σ band day town start len songs told) j0)) else none) = _
          rw [e9]
          rfl
        rw [e] at he'
        have ea : (adXW σ α a2 z) 11 j0 = α 11 j0 := A2 (by omega) (by omega)
        rw [ea]
        exact ⟨hkeep 11 j0 e' he' (Or.inl (by decide)) (Or.inl (by decide)), Or.inl ⟨(fun z => by rcases z with z | z <;> exact absurd z.1 (by decide)), ⟨e', he'⟩, rfl⟩⟩
      | x + 12 => cases he'
    · intro i j0 i' j0' e e' n1 n2 he he' hab
      rcases n1 with ⟨rfl, rfl, m1⟩ | ⟨rfl, rfl⟩ <;> rcases n2 with ⟨rfl, rfl, m2⟩ | ⟨rfl, rfl⟩ <;> first | exact ⟨rfl, rfl⟩ | skip
      · rw [A22, A3_5] at hab; exact absurd hab hd_z
      · rw [A3_5, A22] at hab; exact absurd hab.symm hd_z

def adMP (σ : St) (β : Nat → Nat → Nat) (a2 z z2 : Nat) : Nat → Nat → Nat := fun i j => if i = 2 ∧ j = 0 then a2 else if i = 3 ∧ j = nP σ then z else if i = 4 ∧ j = nP σ then z2 else β i j
set_option maxHeartbeats 4000000 in
theorem RM.gwP (h : RM D E β F σ th ca sm H) : ∃ (cap : Nat) (mc : Int32) (g : Nat → Option Nat), LR D E (β 1 0) (β 2 0) (nP σ) cap mc g H ∧ mc = nI (nP σ) ∧ (∀ k, k < nP σ → g k = some (β 3 k)) ∧ F (β 1 0) ∧ (cap ≠ 0 → F (β 2 0)) ∧ cap ≤ 10 + 2 * nP σ ∧ (cap ≠ 0 → β 1 0 ≠ β 2 0) ∧
    ∀ (H1 : Heap) (a2 z z2 cap2 : Nat) (g2 : Nat → Option Nat) (ins fee songs : Int32) (home : Nat), LR D E (β 1 0) a2 (nP σ + 1) cap2 (mc + 1) g2 H1 → cap2 ≠ 0 → (cap2 ≤ 100 ∧ (cap2 ≤ 2 * nP σ + 10 ∨ cap2 = cap)) → (∀ k, k < nP σ → g2 k = g k) → g2 (nP σ) = some z → ((a2 = β 2 0 ∧ cap ≠ 0) ∨ (¬ F a2 ∧ F' a2)) → (∀ q : Nat, q < H.size → q ≠ β 1 0 → (cap ≠ 0 → q ≠ β 2 0) → H1[q]? = H[q]?) → va_at D vwCl (z, .inr (6, [.int ins, .int songs, .int (nI home), .int fee, .int 0, .int 0, .ref z2])) H1 → va_at D vwCl (z2, arZ E 366 (fun _ => 0)) H1 → ¬ F z → F' z → ¬ F z2 → F' z2 → a2 ≠ z → a2 ≠ z2 → z ≠ z2 → (∀ q, F q → F' q) → (∀ q, F' q → E 0 ≤ q) → nP σ < 10 → home < 6 → RM D E (adMP σ β a2 z z2) F' (adP σ ins fee songs home) th ca sm H1 := by
  obtain ⟨h1, h0, γ, h2, h3⟩ := h
  obtain ⟨q1, ⟨q2, q2'⟩, q3⟩ := h2.1 0 (by decide)
  have q2' : γ.2.1 0 ≤ 10 + 2 * nP σ := q2'
  have hlc : cellM E σ th ca sm γ β 1 0 = some (.inr (13, [.int (nI (mCnt σ 0)), .ref (β 2 0), .int (nI (nP σ))])) := rfl
  have hl := h3.1 1 0 _ hlc
  have hac : γ.2.1 0 ≠ 0 → cellM E σ th ca sm γ β 2 0 = some (arQ E (γ.2.1 0) (fun k => if k < nP σ then some (β 3 k) else γ.2.2 0 k)) := fun hc0 => if_pos ⟨by decide, hc0⟩
  have hne : γ.2.1 0 ≠ 0 → β 1 0 ≠ β 2 0 := fun hc0 e => by
    have := (h3.2 1 0 2 0 _ _ hlc (hac hc0) e).1
    omega
  refine ⟨γ.2.1 0, nI (mCnt σ 0), (fun k => if k < nP σ then some (β 3 k) else γ.2.2 0 k), ⟨hl.1, q1, by omega, ?_⟩, rfl, (fun k hk => if_pos hk), hl.2, (fun hc0 => (h3.1 2 0 _ (hac hc0)).2), q2', hne, ?_⟩
  · by_cases hc0 : γ.2.1 0 = 0
    · exact Or.inl ⟨hc0, q3 hc0⟩
    · exact Or.inr ⟨hc0, (h3.1 2 0 _ (hac hc0)).1⟩
  · intro H1 a2 z z2 cap2 g2 ins fee songs home hL hc2 hcb hg hgn ha2 hq hz_z hz_z2 hn_z hf_z hn_z2 hf_z2 hd_z hd_z2 hap_z_z2 hFF hE hy0 hy1
    have hkeep : ∀ i j e, cellM E σ th ca sm γ β i j = some e → (i ≠ 2 ∨ j ≠ 0) → (i ≠ 1 ∨ j ≠ 0) → va_at D vwCl (β i j, e) H1 := by
      intro i j e he hij hij1
      refine (h3.1 i j e he).1.kept (hq _ (h3.1 i j e he).1.lt (fun z => ?_) (fun hc0 z => ?_))
      · have := h3.2 i j 1 0 _ _ he hlc z
        omega
      · have := h3.2 i j 2 0 _ _ he (hac hc0) z
        omega
    obtain ⟨hL1, hL2, hL3, hL4⟩ := hL
    have hL4 : va_at D vwCl (a2, arQ E cap2 g2) H1 := hL4.elim (fun z => absurd z.1 hc2) (fun z => z.2)
    have A2 : ∀ {i j}, ¬ (i = 2 ∧ j = 0) → ¬ (i = 3 ∧ j = nP σ) → ¬ (i = 4 ∧ j = nP σ) → (adMP σ β a2 z z2) i j = β i j := by
      intro i j n0 n1 n2
      unfold adMP
      rw [if_neg n0, if_neg n1, if_neg n2]
    have A22 : (adMP σ β a2 z z2) 2 0 = a2 := if_pos ⟨rfl, rfl⟩
    have A3_3 : (adMP σ β a2 z z2) 3 (nP σ) = z := by
      unfold adMP
      rw [if_neg (by omega), if_pos ⟨rfl, rfl⟩]
    have A3_4 : (adMP σ β a2 z z2) 4 (nP σ) = z2 := by
      unfold adMP
      rw [if_neg (by omega), if_neg (by omega), if_pos ⟨rfl, rfl⟩]
    obtain ⟨γ1, hγ⟩ : ∃ γ1 : Gh, γ1 = ((fun i => if i = 0 then nI (mCnt σ 0) + 1 else γ.1 i, fun i => if i = 0 then cap2 else γ.2.1 i, fun i k => if i = 0 then g2 k else γ.2.2 i k) : Gh) := ⟨_, rfl⟩
    have hls : mLs E (adP σ ins fee songs home) γ1 (adMP σ β a2 z z2) := by
      refine ⟨fun j0 hj4 => ?_, fun b hb => ?_⟩
      · subst hγ
        by_cases hj : j0 = 0
        · subst hj
          refine ⟨?_, ?_, ?_⟩
          · show nP σ + 1 ≤ cap2
            exact hL2
          · show cap2 ≤ 100 ∧ cap2 ≤ 10 + 2 * (nP σ + 1)
            omega
          · intro z
            exact absurd z hc2
        · have e1 : mCnt (adP σ ins fee songs home) j0 = mCnt σ j0 := by
            match j0, hj with
            | 1, _ => rfl
            | 2, _ => rfl
            | x + 3, _ => exact absurd hj4 (by omega)
          have e2 : (adMP σ β a2 z z2) 2 j0 = β 2 j0 := A2 (fun z => hj z.2) (fun z => absurd z.1 (by decide)) (fun z => absurd z.1 (by decide))
          rw [e1, e2]
          refine ⟨?_, ?_, ?_⟩
          · show mCnt σ j0 ≤ (if j0 = 0 then cap2 else γ.2.1 j0)
            rw [if_neg hj]; exact (h2.1 j0 hj4).1
          · show (if j0 = 0 then cap2 else γ.2.1 j0) ≤ 100 ∧ (if j0 = 0 then cap2 else γ.2.1 j0) ≤ 10 + 2 * mCnt σ j0
            rw [if_neg hj]; exact (h2.1 j0 hj4).2.1
          · show (if j0 = 0 then cap2 else γ.2.1 j0) = 0 → _
            rw [if_neg hj]; exact (h2.1 j0 hj4).2.2
      · have hb : b < nB σ := hb
        have e2 : (adMP σ β a2 z z2) 9 b = β 9 b := A2 (by omega) (fun z => absurd z.1 (by decide)) (fun z => absurd z.1 (by decide))
        rw [e2]
        exact h2.2 b hb
    refine ⟨adP_RI h1 hy0 hy1, hE, γ1, hls, Rep.re (fun i j0 => (i = 2 ∧ j0 = 0 ∧ ¬ F a2) ∨ (i = 3 ∧ j0 = (nP σ)) ∨ (i = 4 ∧ j0 = (nP σ))) h3 hFF (fun i j0 e' he' => ?_) ?_⟩
    · match i with
      | 0 =>
        have e : cellM E (adP σ ins fee songs home) th ca sm γ1 (adMP σ β a2 z z2) 0 j0 = cellM E σ th ca sm γ β 0 j0 := by subst hγ; rfl
        rw [e] at he'
        have ea : (adMP σ β a2 z z2) 0 j0 = β 0 j0 := A2 (by omega) (by omega) (by omega)
        rw [ea]
        exact ⟨hkeep 0 j0 e' he' (Or.inl (by decide)) (Or.inl (by decide)), Or.inl ⟨(fun z => by rcases z with z | z | z <;> exact absurd z.1 (by decide)), ⟨e', he'⟩, rfl⟩⟩
      | 1 =>
        by_cases hj : j0 = 0
        · subst hj
          have hc : cellM E (adP σ ins fee songs home) th ca sm γ1 (adMP σ β a2 z z2) 1 0 = some (.inr (13, [.int (nI (nP σ + 1)), .ref a2, .int (nI (nP σ + 1))])) := by subst hγ; rfl
          rw [hc] at he'
          rw [← Option.some.inj he']
          have ea : (adMP σ β a2 z z2) 1 0 = β 1 0 := A2 (by omega) (by omega) (by omega)
          rw [ea]
          exact ⟨(by have h9 : va_at D vwCl (β 1 0, .inr (13, [.int (nI (nP σ) + 1), .ref a2, .int (nI (nP σ + 1))])) H1 := hL1; rw [nI_1 (nP σ)] at h9; exact h9), Or.inl ⟨(fun z => by rcases z with z | z | z <;> exact absurd z.1 (by decide)), ⟨_, hlc⟩, rfl⟩⟩
        · have e : cellM E (adP σ ins fee songs home) th ca sm γ1 (adMP σ β a2 z z2) 1 j0 = cellM E σ th ca sm γ β 1 j0 := by
            subst hγ
            match j0, hj with
            | 1, _ => rfl
            | 2, _ => rfl
            | x + 3, _ => simp only [cellM]; rw [if_neg (by omega), if_neg (by omega)]
          rw [e] at he'
          have ea : (adMP σ β a2 z z2) 1 j0 = β 1 j0 := A2 (by omega) (by omega) (by omega)
          rw [ea]
          exact ⟨hkeep 1 j0 e' he' (Or.inl (by decide)) (Or.inr hj), Or.inl ⟨(fun z => by rcases z with z | z | z <;> exact absurd z.1 (by decide)), ⟨e', he'⟩, rfl⟩⟩
      | 2 =>
        by_cases hj : j0 = 0
        · subst hj
          have hc : cellM E (adP σ ins fee songs home) th ca sm γ1 (adMP σ β a2 z z2) 2 0 = some (arQ E cap2 g2) := by
            subst hγ
            refine (if_pos ⟨by decide, hc2⟩).trans ?_
            show some (arQ E cap2 (fun k => if k < nP σ + 1 then some ((adMP σ β a2 z z2) 3 k) else g2 k)) = _
            congr 2
            funext k
            by_cases hk : k < nP σ
            · rw [if_pos (by omega), hg k hk, A2 (by omega) (by omega) (by omega)]
              exact (if_pos hk).symm
            · by_cases hk2 : k = nP σ
              · subst hk2; rw [if_pos (by omega), hgn, A3_3]
              · rw [if_neg (by omega)]
          rw [hc] at he'
          rw [← Option.some.inj he', A22]
          refine ⟨hL4, ?_⟩
          rcases ha2 with ⟨hz1, hz2⟩ | ⟨hz1, hz2⟩
          · refine Or.inl ⟨fun z => ?_, ⟨_, hac hz2⟩, hz1⟩
            rcases z with z | z | z
            · exact z.2.2 (by rw [hz1]; exact (h3.1 2 0 _ (hac hz2)).2)
            · exact absurd z.1 (by decide)
            · exact absurd z.1 (by decide)
          · exact Or.inr ⟨Or.inl ⟨rfl, rfl, hz1⟩, hz2, hz1⟩
        · have e : cellM E (adP σ ins fee songs home) th ca sm γ1 (adMP σ β a2 z z2) 2 j0 = cellM E σ th ca sm γ β 2 j0 := by
            subst hγ
            match j0, hj with
            | 1, _ => rfl
            | 2, _ => rfl
            | x + 3, _ => simp only [cellM]; rw [if_neg (by omega), if_neg (by omega)]
          rw [e] at he'
          have ea : (adMP σ β a2 z z2) 2 j0 = β 2 j0 := A2 (by omega) (by omega) (by omega)
          rw [ea]
          exact ⟨hkeep 2 j0 e' he' (Or.inr hj) (Or.inl (by decide)), Or.inl ⟨fun z => by rcases z with z | z | z; exact hj z.2.1; all_goals exact absurd z.1 (by decide), ⟨e', he'⟩, rfl⟩⟩
      | 3 =>
        by_cases hj : j0 = (nP σ)
        · subst hj
          have hc : cellM E (adP σ ins fee songs home) th ca sm γ1 (adMP σ β a2 z z2) 3 (nP σ) = some (.inr (6, [.int ins, .int songs, .int (nI home), .int fee, .int 0, .int 0, .ref z2])) := by
            have h9 : nP σ < nP (adP σ ins fee songs home) := Nat.lt_succ_self _
            refine (if_pos h9).trans ?_
            rw [A3_4]
            simp [adP, nP, pIns, pHome, pFee, pSongs, pFeuds, pEarned]
          rw [hc] at he'
          rw [← Option.some.inj he', A3_3]
          exact ⟨hz_z, Or.inr ⟨Or.inr (Or.inl ⟨rfl, rfl⟩), hf_z, hn_z⟩⟩
        · have e : cellM E (adP σ ins fee songs home) th ca sm γ1 (adMP σ β a2 z z2) 3 j0 = cellM E σ th ca sm γ β 3 j0 := by
            have eR : ∀ a, (adP σ ins fee songs home).2.1 a j0 = σ.2.1 a j0 := fun a => if_neg (fun z => hj z.2)
            have eN : ∀ a, a ≠ 0 → (adP σ ins fee songs home).1 a j0 = σ.1 a j0 := fun a ha => by
              show (if _ then _ else _) = _
              rw [if_neg (fun z => ha z.1), if_neg (fun z => hj z.2)]
            have eO : pOff (adP σ ins fee songs home) j0 = pOff σ j0 := funext fun x => if_neg hj
            by_cases hjn : j0 < nP σ
            · have h1 : j0 < nP (adP σ ins fee songs home) := Nat.lt_succ_of_lt hjn
              refine (if_pos h1).trans (Eq.trans ?_ (if_pos hjn).symm)
              rw [A2 (i := 4) (j := j0) (by omega) (by omega) (fun z => hj z.2)]
              simp only [nP, nB, nW, pHome, wTown, wBand, wDay, wState, tod, pIns, pFee, pSongs, pFeuds, pEarned, wStart, wLen, wSongs, wTold, wSet, wPrice, wPaid, wLate, bShape, sKey, sEnergy, sMin, sPlayed, eR, eN 1 (by decide), eN 2 (by decide), eN 3 (by decide), eN 4 (by decide), eN 5 (by decide)]
            · have h1 : ¬ j0 < nP (adP σ ins fee songs home) := fun z => by have z : j0 < nP σ + 1 := z; omega
              exact (if_neg h1).trans (if_neg hjn).symm
          rw [e] at he'
          have ea : (adMP σ β a2 z z2) 3 j0 = β 3 j0 := A2 (by omega) (fun z => hj z.2) (by omega)
          rw [ea]
          exact ⟨hkeep 3 j0 e' he' (Or.inl (by decide)) (Or.inl (by decide)), Or.inl ⟨fun z => by rcases z with z | z | z <;> first | exact absurd z.1 (by decide) | exact hj z.2, ⟨e', he'⟩, rfl⟩⟩
      | 4 =>
        by_cases hj : j0 = (nP σ)
        · subst hj
          have hc : cellM E (adP σ ins fee songs home) th ca sm γ1 (adMP σ β a2 z z2) 4 (nP σ) = some (arZ E 366 (fun _ => 0)) := by
            have h9 : nP σ < nP (adP σ ins fee songs home) := Nat.lt_succ_self _
            refine (if_pos h9).trans ?_
            have e9 : pOff (adP σ ins fee songs home) (nP σ) = fun _ => 0 := funext fun x => if_pos rfl
            rw [e9]; try rfl
          rw [hc] at he'
          rw [← Option.some.inj he', A3_4]
          exact ⟨hz_z2, Or.inr ⟨Or.inr (Or.inr ⟨rfl, rfl⟩), hf_z2, hn_z2⟩⟩
        · have e : cellM E (adP σ ins fee songs home) th ca sm γ1 (adMP σ β a2 z z2) 4 j0 = cellM E σ th ca sm γ β 4 j0 := by
            have eR : ∀ a, (adP σ ins fee songs home).2.1 a j0 = σ.2.1 a j0 := fun a => if_neg (fun z => hj z.2)
            have eN : ∀ a, a ≠ 0 → (adP σ ins fee songs home).1 a j0 = σ.1 a j0 := fun a ha => by
              show (if _ then _ else _) = _
              rw [if_neg (fun z => ha z.1), if_neg (fun z => hj z.2)]
            have eO : pOff (adP σ ins fee songs home) j0 = pOff σ j0 := funext fun x => if_neg hj
            by_cases hjn : j0 < nP σ
            · have h1 : j0 < nP (adP σ ins fee songs home) := Nat.lt_succ_of_lt hjn
              refine (if_pos h1).trans (Eq.trans ?_ (if_pos hjn).symm)
              rw [eO]
            · have h1 : ¬ j0 < nP (adP σ ins fee songs home) := fun z => by have z : j0 < nP σ + 1 := z; omega
              exact (if_neg h1).trans (if_neg hjn).symm
          rw [e] at he'
          have ea : (adMP σ β a2 z z2) 4 j0 = β 4 j0 := A2 (by omega) (by omega) (fun z => hj z.2)
          rw [ea]
          exact ⟨hkeep 4 j0 e' he' (Or.inl (by decide)) (Or.inl (by decide)), Or.inl ⟨fun z => by rcases z with z | z | z <;> first | exact absurd z.1 (by decide) | exact hj z.2, ⟨e', he'⟩, rfl⟩⟩
      | 5 =>
        have e : cellM E (adP σ ins fee songs home) th ca sm γ1 (adMP σ β a2 z z2) 5 j0 = cellM E σ th ca sm γ β 5 j0 := by subst hγ; rfl
        rw [e] at he'
        have ea : (adMP σ β a2 z z2) 5 j0 = β 5 j0 := A2 (by omega) (by omega) (by omega)
        rw [ea]
        exact ⟨hkeep 5 j0 e' he' (Or.inl (by decide)) (Or.inl (by decide)), Or.inl ⟨(fun z => by rcases z with z | z | z <;> exact absurd z.1 (by decide)), ⟨e', he'⟩, rfl⟩⟩
      | 6 =>
        have e : cellM E (adP σ ins fee songs home) th ca sm γ1 (adMP σ β a2 z z2) 6 j0 = cellM E σ th ca sm γ β 6 j0 := by subst hγ; rfl
        rw [e] at he'
        have ea : (adMP σ β a2 z z2) 6 j0 = β 6 j0 := A2 (by omega) (by omega) (by omega)
        rw [ea]
        exact ⟨hkeep 6 j0 e' he' (Or.inl (by decide)) (Or.inl (by decide)), Or.inl ⟨(fun z => by rcases z with z | z | z <;> exact absurd z.1 (by decide)), ⟨e', he'⟩, rfl⟩⟩
      | 7 =>
        have e : cellM E (adP σ ins fee songs home) th ca sm γ1 (adMP σ β a2 z z2) 7 j0 = cellM E σ th ca sm γ β 7 j0 := by subst hγ; rfl
        rw [e] at he'
        have ea : (adMP σ β a2 z z2) 7 j0 = β 7 j0 := A2 (by omega) (by omega) (by omega)
        rw [ea]
        exact ⟨hkeep 7 j0 e' he' (Or.inl (by decide)) (Or.inl (by decide)), Or.inl ⟨(fun z => by rcases z with z | z | z <;> exact absurd z.1 (by decide)), ⟨e', he'⟩, rfl⟩⟩
      | 8 =>
        have e : cellM E (adP σ ins fee songs home) th ca sm γ1 (adMP σ β a2 z z2) 8 j0 = cellM E σ th ca sm γ β 8 j0 := by subst hγ; rfl
        rw [e] at he'
        have ea : (adMP σ β a2 z z2) 8 j0 = β 8 j0 := A2 (by omega) (by omega) (by omega)
        rw [ea]
        exact ⟨hkeep 8 j0 e' he' (Or.inl (by decide)) (Or.inl (by decide)), Or.inl ⟨(fun z => by rcases z with z | z | z <;> exact absurd z.1 (by decide)), ⟨e', he'⟩, rfl⟩⟩
      | 9 =>
        have e : cellM E (adP σ ins fee songs home) th ca sm γ1 (adMP σ β a2 z z2) 9 j0 = cellM E σ th ca sm γ β 9 j0 := by subst hγ; rfl
        rw [e] at he'
        have ea : (adMP σ β a2 z z2) 9 j0 = β 9 j0 := A2 (by omega) (by omega) (by omega)
        rw [ea]
        exact ⟨hkeep 9 j0 e' he' (Or.inl (by decide)) (Or.inl (by decide)), Or.inl ⟨(fun z => by rcases z with z | z | z <;> exact absurd z.1 (by decide)), ⟨e', he'⟩, rfl⟩⟩
      | x + 10 => cases he'
    · intro i j0 i' j0' e e' n1 n2 he he' hab
      rcases n1 with ⟨rfl, rfl, m1⟩ | ⟨rfl, rfl⟩ | ⟨rfl, rfl⟩ <;> rcases n2 with ⟨rfl, rfl, m2⟩ | ⟨rfl, rfl⟩ | ⟨rfl, rfl⟩ <;> first | exact ⟨rfl, rfl⟩ | skip
      · rw [A22, A3_3] at hab; exact absurd hab hd_z
      · rw [A22, A3_4] at hab; exact absurd hab hd_z2
      · rw [A3_3, A22] at hab; exact absurd hab.symm hd_z
      · rw [A3_3, A3_4] at hab; exact absurd hab hap_z_z2
      · rw [A3_4, A22] at hab; exact absurd hab.symm hd_z2
      · rw [A3_4, A3_3] at hab; exact absurd hab.symm hap_z_z2

def adMB (σ : St) (β : Nat → Nat → Nat) (a2 z : Nat) : Nat → Nat → Nat := fun i j => if i = 2 ∧ j = 1 then a2 else if i = 9 ∧ j = nB σ then z else β i j
set_option maxHeartbeats 4000000 in
theorem RM.gwB (h : RM D E β F σ th ca sm H) : ∃ (cap : Nat) (mc : Int32) (g : Nat → Option Nat), LR D E (β 1 1) (β 2 1) (nB σ) cap mc g H ∧ mc = nI (nB σ) ∧ (∀ k, k < nB σ → g k = some (β 9 k)) ∧ F (β 1 1) ∧ (cap ≠ 0 → F (β 2 1)) ∧ cap ≤ 10 + 2 * nB σ ∧ (cap ≠ 0 → β 1 1 ≠ β 2 1) ∧
    ∀ (H1 : Heap) (a2 z cap2 : Nat) (g2 : Nat → Option Nat) (sh : Int32), LR D E (β 1 1) a2 (nB σ + 1) cap2 (mc + 1) g2 H1 → cap2 ≠ 0 → (cap2 ≤ 100 ∧ (cap2 ≤ 2 * nB σ + 10 ∨ cap2 = cap)) → (∀ k, k < nB σ → g2 k = g k) → g2 (nB σ) = some z → ((a2 = β 2 1 ∧ cap ≠ 0) ∨ (¬ F a2 ∧ F' a2)) → (∀ q : Nat, q < H.size → q ≠ β 1 1 → (cap ≠ 0 → q ≠ β 2 1) → H1[q]? = H[q]?) → (127 < sh → va_at D vwCl (z, .inr (14, [.int sh])) H1) → (127 < sh → ¬ F z ∧ F' z) → 1 ≤ sh → (¬ 127 < sh → z = E (300 + (sh + 128).toNatClampNeg)) → (127 < sh → a2 ≠ z) → (∀ q, F q → F' q) → (∀ q, F' q → E 0 ≤ q) → nB σ < 6 → RM D E (adMB σ β a2 z) F' (adB σ sh) th ca sm H1 := by
  obtain ⟨h1, h0, γ, h2, h3⟩ := h
  obtain ⟨q1, ⟨q2, q2'⟩, q3⟩ := h2.1 1 (by decide)
  have q2' : γ.2.1 1 ≤ 10 + 2 * nB σ := q2'
  have hlc : cellM E σ th ca sm γ β 1 1 = some (.inr (13, [.int (nI (mCnt σ 1)), .ref (β 2 1), .int (nI (nB σ))])) := rfl
  have hl := h3.1 1 1 _ hlc
  have hac : γ.2.1 1 ≠ 0 → cellM E σ th ca sm γ β 2 1 = some (arQ E (γ.2.1 1) (fun k => if k < nB σ then some (β 9 k) else γ.2.2 1 k)) := fun hc0 => if_pos ⟨by decide, hc0⟩
  have hne : γ.2.1 1 ≠ 0 → β 1 1 ≠ β 2 1 := fun hc0 e => by
    have := (h3.2 1 1 2 1 _ _ hlc (hac hc0) e).1
    omega
  refine ⟨γ.2.1 1, nI (mCnt σ 1), (fun k => if k < nB σ then some (β 9 k) else γ.2.2 1 k), ⟨hl.1, q1, by omega, ?_⟩, rfl, (fun k hk => if_pos hk), hl.2, (fun hc0 => (h3.1 2 1 _ (hac hc0)).2), q2', hne, ?_⟩
  · by_cases hc0 : γ.2.1 1 = 0
    · exact Or.inl ⟨hc0, q3 hc0⟩
    · exact Or.inr ⟨hc0, (h3.1 2 1 _ (hac hc0)).1⟩
  · intro H1 a2 z cap2 g2 sh hL hc2 hcb hg hgn ha2 hq hz_z hzz hs1 hce hd_z hFF hE hy0
    have hkeep : ∀ i j e, cellM E σ th ca sm γ β i j = some e → (i ≠ 2 ∨ j ≠ 1) → (i ≠ 1 ∨ j ≠ 1) → va_at D vwCl (β i j, e) H1 := by
      intro i j e he hij hij1
      refine (h3.1 i j e he).1.kept (hq _ (h3.1 i j e he).1.lt (fun z => ?_) (fun hc0 z => ?_))
      · have := h3.2 i j 1 1 _ _ he hlc z
        omega
      · have := h3.2 i j 2 1 _ _ he (hac hc0) z
        omega
    obtain ⟨hL1, hL2, hL3, hL4⟩ := hL
    have hL4 : va_at D vwCl (a2, arQ E cap2 g2) H1 := hL4.elim (fun z => absurd z.1 hc2) (fun z => z.2)
    have A2 : ∀ {i j}, ¬ (i = 2 ∧ j = 1) → ¬ (i = 9 ∧ j = nB σ) → (adMB σ β a2 z) i j = β i j := by
      intro i j n0 n1
      unfold adMB
      rw [if_neg n0, if_neg n1]
    have A22 : (adMB σ β a2 z) 2 1 = a2 := if_pos ⟨rfl, rfl⟩
    have A3_9 : (adMB σ β a2 z) 9 (nB σ) = z := by
      unfold adMB
      rw [if_neg (by omega), if_pos ⟨rfl, rfl⟩]
    obtain ⟨γ1, hγ⟩ : ∃ γ1 : Gh, γ1 = ((fun i => if i = 1 then nI (mCnt σ 1) + 1 else γ.1 i, fun i => if i = 1 then cap2 else γ.2.1 i, fun i k => if i = 1 then g2 k else γ.2.2 i k) : Gh) := ⟨_, rfl⟩
    have hls : mLs E (adB σ sh) γ1 (adMB σ β a2 z) := by
      refine ⟨fun j0 hj4 => ?_, fun b hb => ?_⟩
      · subst hγ
        by_cases hj : j0 = 1
        · subst hj
          refine ⟨?_, ?_, ?_⟩
          · show nB σ + 1 ≤ cap2
            exact hL2
          · show cap2 ≤ 100 ∧ cap2 ≤ 10 + 2 * (nB σ + 1)
            omega
          · intro z
            exact absurd z hc2
        · have e1 : mCnt (adB σ sh) j0 = mCnt σ j0 := by
            match j0, hj with
            | 0, _ => rfl
            | 2, _ => rfl
            | x + 3, _ => exact absurd hj4 (by omega)
          have e2 : (adMB σ β a2 z) 2 j0 = β 2 j0 := A2 (fun z => hj z.2) (fun z => absurd z.1 (by decide))
          rw [e1, e2]
          refine ⟨?_, ?_, ?_⟩
          · show mCnt σ j0 ≤ (if j0 = 1 then cap2 else γ.2.1 j0)
            rw [if_neg hj]; exact (h2.1 j0 hj4).1
          · show (if j0 = 1 then cap2 else γ.2.1 j0) ≤ 100 ∧ (if j0 = 1 then cap2 else γ.2.1 j0) ≤ 10 + 2 * mCnt σ j0
            rw [if_neg hj]; exact (h2.1 j0 hj4).2.1
          · show (if j0 = 1 then cap2 else γ.2.1 j0) = 0 → _
            rw [if_neg hj]; exact (h2.1 j0 hj4).2.2
      · by_cases hj : b = nB σ
        · subst hj
          refine ⟨?_, fun hb2 => ?_⟩
          · show 1 ≤ (if 28 = 28 ∧ nB σ = nB σ then sh else σ.2.1 28 (nB σ))
            rw [if_pos ⟨rfl, rfl⟩]; exact hs1
          · have hb2 : ¬ 127 < (if 28 = 28 ∧ nB σ = nB σ then sh else σ.2.1 28 (nB σ)) := hb2
            rw [if_pos ⟨rfl, rfl⟩] at hb2
            show (adMB σ β a2 z) 9 (nB σ) = E (300 + ((if 28 = 28 ∧ nB σ = nB σ then sh else σ.2.1 28 (nB σ)) + 128).toNatClampNeg)
            rw [A3_9, if_pos ⟨rfl, rfl⟩]; exact hce hb2
        · have hb1 : b < nB σ := by have hb : b < nB σ + 1 := hb; omega
          have e1 : bShape (adB σ sh) b = bShape σ b := if_neg (fun z => hj z.2)
          rw [e1, A2 (by omega) (fun z => hj z.2)]
          exact h2.2 b hb1
    refine ⟨adB_RI h1 hy0, hE, γ1, hls, Rep.re (fun i j0 => (i = 2 ∧ j0 = 1 ∧ ¬ F a2) ∨ (i = 9 ∧ j0 = (nB σ))) h3 hFF (fun i j0 e' he' => ?_) ?_⟩
    · match i with
      | 0 =>
        have e : cellM E (adB σ sh) th ca sm γ1 (adMB σ β a2 z) 0 j0 = cellM E σ th ca sm γ β 0 j0 := by subst hγ; rfl
        rw [e] at he'
        have ea : (adMB σ β a2 z) 0 j0 = β 0 j0 := A2 (by omega) (by omega)
        rw [ea]
        exact ⟨hkeep 0 j0 e' he' (Or.inl (by decide)) (Or.inl (by decide)), Or.inl ⟨(fun z => by rcases z with z | z <;> exact absurd z.1 (by decide)), ⟨e', he'⟩, rfl⟩⟩
      | 1 =>
        by_cases hj : j0 = 1
        · subst hj
          have hc : cellM E (adB σ sh) th ca sm γ1 (adMB σ β a2 z) 1 1 = some (.inr (13, [.int (nI (nB σ + 1)), .ref a2, .int (nI (nB σ + 1))])) := by subst hγ; rfl
          rw [hc] at he'
          rw [← Option.some.inj he']
          have ea : (adMB σ β a2 z) 1 1 = β 1 1 := A2 (by omega) (by omega)
          rw [ea]
          exact ⟨(by have h9 : va_at D vwCl (β 1 1, .inr (13, [.int (nI (nB σ) + 1), .ref a2, .int (nI (nB σ + 1))])) H1 := hL1; rw [nI_1 (nB σ)] at h9; exact h9), Or.inl ⟨(fun z => by rcases z with z | z <;> exact absurd z.1 (by decide)), ⟨_, hlc⟩, rfl⟩⟩
        · have e : cellM E (adB σ sh) th ca sm γ1 (adMB σ β a2 z) 1 j0 = cellM E σ th ca sm γ β 1 j0 := by
            subst hγ
            match j0, hj with
            | 0, _ => rfl
            | 2, _ => rfl
            | x + 3, _ => simp only [cellM]; rw [if_neg (by omega), if_neg (by omega)]
          rw [e] at he'
          have ea : (adMB σ β a2 z) 1 j0 = β 1 j0 := A2 (by omega) (by omega)
          rw [ea]
          exact ⟨hkeep 1 j0 e' he' (Or.inl (by decide)) (Or.inr hj), Or.inl ⟨(fun z => by rcases z with z | z <;> exact absurd z.1 (by decide)), ⟨e', he'⟩, rfl⟩⟩
      | 2 =>
        by_cases hj : j0 = 1
        · subst hj
          have hc : cellM E (adB σ sh) th ca sm γ1 (adMB σ β a2 z) 2 1 = some (arQ E cap2 g2) := by
            subst hγ
            refine (if_pos ⟨by decide, hc2⟩).trans ?_
            show some (arQ E cap2 (fun k => if k < nB σ + 1 then some ((adMB σ β a2 z) 9 k) else g2 k)) = _
            congr 2
            funext k
            by_cases hk : k < nB σ
            · rw [if_pos (by omega), hg k hk, A2 (by omega) (by omega)]
              exact (if_pos hk).symm
            · by_cases hk2 : k = nB σ
              · subst hk2; rw [if_pos (by omega), hgn, A3_9]
              · rw [if_neg (by omega)]
          rw [hc] at he'
          rw [← Option.some.inj he', A22]
          refine ⟨hL4, ?_⟩
          rcases ha2 with ⟨hz1, hz2⟩ | ⟨hz1, hz2⟩
          · refine Or.inl ⟨fun z => ?_, ⟨_, hac hz2⟩, hz1⟩
            rcases z with z | z
            · exact z.2.2 (by rw [hz1]; exact (h3.1 2 1 _ (hac hz2)).2)
            · exact absurd z.1 (by decide)
          · exact Or.inr ⟨Or.inl ⟨rfl, rfl, hz1⟩, hz2, hz1⟩
        · have e : cellM E (adB σ sh) th ca sm γ1 (adMB σ β a2 z) 2 j0 = cellM E σ th ca sm γ β 2 j0 := by
            subst hγ
            match j0, hj with
            | 0, _ => rfl
            | 2, _ => rfl
            | x + 3, _ => simp only [cellM]; rw [if_neg (by omega), if_neg (by omega)]
          rw [e] at he'
          have ea : (adMB σ β a2 z) 2 j0 = β 2 j0 := A2 (by omega) (by omega)
          rw [ea]
          exact ⟨hkeep 2 j0 e' he' (Or.inr hj) (Or.inl (by decide)), Or.inl ⟨fun z => by rcases z with z | z; exact hj z.2.1; all_goals exact absurd z.1 (by decide), ⟨e', he'⟩, rfl⟩⟩
      | 3 =>
        have e : cellM E (adB σ sh) th ca sm γ1 (adMB σ β a2 z) 3 j0 = cellM E σ th ca sm γ β 3 j0 := by subst hγ; rfl
        rw [e] at he'
        have ea : (adMB σ β a2 z) 3 j0 = β 3 j0 := A2 (by omega) (by omega)
        rw [ea]
        exact ⟨hkeep 3 j0 e' he' (Or.inl (by decide)) (Or.inl (by decide)), Or.inl ⟨(fun z => by rcases z with z | z <;> exact absurd z.1 (by decide)), ⟨e', he'⟩, rfl⟩⟩
      | 4 =>
        have e : cellM E (adB σ sh) th ca sm γ1 (adMB σ β a2 z) 4 j0 = cellM E σ th ca sm γ β 4 j0 := by subst hγ; rfl
        rw [e] at he'
        have ea : (adMB σ β a2 z) 4 j0 = β 4 j0 := A2 (by omega) (by omega)
        rw [ea]
        exact ⟨hkeep 4 j0 e' he' (Or.inl (by decide)) (Or.inl (by decide)), Or.inl ⟨(fun z => by rcases z with z | z <;> exact absurd z.1 (by decide)), ⟨e', he'⟩, rfl⟩⟩
      | 5 =>
        have e : cellM E (adB σ sh) th ca sm γ1 (adMB σ β a2 z) 5 j0 = cellM E σ th ca sm γ β 5 j0 := by subst hγ; rfl
        rw [e] at he'
        have ea : (adMB σ β a2 z) 5 j0 = β 5 j0 := A2 (by omega) (by omega)
        rw [ea]
        exact ⟨hkeep 5 j0 e' he' (Or.inl (by decide)) (Or.inl (by decide)), Or.inl ⟨(fun z => by rcases z with z | z <;> exact absurd z.1 (by decide)), ⟨e', he'⟩, rfl⟩⟩
      | 6 =>
        have e : cellM E (adB σ sh) th ca sm γ1 (adMB σ β a2 z) 6 j0 = cellM E σ th ca sm γ β 6 j0 := by subst hγ; rfl
        rw [e] at he'
        have ea : (adMB σ β a2 z) 6 j0 = β 6 j0 := A2 (by omega) (by omega)
        rw [ea]
        exact ⟨hkeep 6 j0 e' he' (Or.inl (by decide)) (Or.inl (by decide)), Or.inl ⟨(fun z => by rcases z with z | z <;> exact absurd z.1 (by decide)), ⟨e', he'⟩, rfl⟩⟩
      | 7 =>
        have e : cellM E (adB σ sh) th ca sm γ1 (adMB σ β a2 z) 7 j0 = cellM E σ th ca sm γ β 7 j0 := by subst hγ; rfl
        rw [e] at he'
        have ea : (adMB σ β a2 z) 7 j0 = β 7 j0 := A2 (by omega) (by omega)
        rw [ea]
        exact ⟨hkeep 7 j0 e' he' (Or.inl (by decide)) (Or.inl (by decide)), Or.inl ⟨(fun z => by rcases z with z | z <;> exact absurd z.1 (by decide)), ⟨e', he'⟩, rfl⟩⟩
      | 8 =>
        have e : cellM E (adB σ sh) th ca sm γ1 (adMB σ β a2 z) 8 j0 = cellM E σ th ca sm γ β 8 j0 := by subst hγ; rfl
        rw [e] at he'
        have ea : (adMB σ β a2 z) 8 j0 = β 8 j0 := A2 (by omega) (by omega)
        rw [ea]
        exact ⟨hkeep 8 j0 e' he' (Or.inl (by decide)) (Or.inl (by decide)), Or.inl ⟨(fun z => by rcases z with z | z <;> exact absurd z.1 (by decide)), ⟨e', he'⟩, rfl⟩⟩
      | 9 =>
        by_cases hj : j0 = nB σ
        · subst hj
          have hcc : cellM E (adB σ sh) th ca sm γ1 (adMB σ β a2 z) 9 (nB σ) = if nB σ < nB σ + 1 ∧ 127 < (if 28 = 28 ∧ nB σ = nB σ then sh else σ.2.1 28 (nB σ)) then some (.inr (14, [.int (if 28 = 28 ∧ nB σ = nB σ then sh else σ.2.1 28 (nB σ))])) else none := rfl
          rw [hcc, if_pos (⟨rfl, rfl⟩ : 28 = 28 ∧ nB σ = nB σ)] at he'
          by_cases h127 : 127 < sh
          · rw [if_pos ⟨by omega, h127⟩] at he'
            rw [← Option.some.inj he', A3_9]
            exact ⟨hz_z h127, Or.inr ⟨Or.inr ⟨rfl, rfl⟩, (hzz h127).2, (hzz h127).1⟩⟩
          · rw [if_neg (fun z => h127 z.2)] at he'
            cases he'
        · have e : cellM E (adB σ sh) th ca sm γ1 (adMB σ β a2 z) 9 j0 = cellM E σ th ca sm γ β 9 j0 := by
            have eR : ∀ a, (adB σ sh).2.1 a j0 = σ.2.1 a j0 := fun a => if_neg (fun z => hj z.2)
            have eN : ∀ a, a ≠ 0 → (adB σ sh).1 a j0 = σ.1 a j0 := fun a ha => by
              show (if _ then _ else _) = _
              rw [if_neg (fun z => ha z.1)]
            have e1 : bShape (adB σ sh) j0 = bShape σ j0 := eR 28
            have hlt : (j0 < nB σ + 1 ∧ 127 < bShape σ j0) ↔ (j0 < nB σ ∧ 127 < bShape σ j0) := ⟨fun z => ⟨by have := z.1; omega, z.2⟩, fun z => ⟨by have := z.1; omega, z.2⟩⟩
            show (if j0 < nB σ + 1 ∧ 127 < bShape (adB σ sh) j0 then some (.inr (14, [.int (bShape (adB σ sh) j0)])) else none : Option va_E) = (if j0 < nB σ ∧ 127 < bShape σ j0 then some (.inr (14, [.int (bShape σ j0)])) else none)
            rw [e1]
            by_cases hjn : j0 < nB σ ∧ 127 < bShape σ j0
            · rw [if_pos hjn, if_pos (hlt.mpr hjn)]
            · rw [if_neg hjn, if_neg (fun z => hjn (hlt.mp z))]
          rw [e] at he'
          have ea : (adMB σ β a2 z) 9 j0 = β 9 j0 := A2 (by omega) (fun z => hj z.2)
          rw [ea]
          exact ⟨hkeep 9 j0 e' he' (Or.inl (by decide)) (Or.inl (by decide)), Or.inl ⟨fun z => by rcases z with z | z <;> first | exact absurd z.1 (by decide) | exact hj z.2, ⟨e', he'⟩, rfl⟩⟩
      | x + 10 => cases he'
    · intro i j0 i' j0' e e' n1 n2 he he' hab
      rcases n1 with ⟨rfl, rfl, m1⟩ | ⟨rfl, rfl⟩ <;> rcases n2 with ⟨rfl, rfl, m2⟩ | ⟨rfl, rfl⟩ <;> first | exact ⟨rfl, rfl⟩ | skip
      · rw [A22, A3_9] at hab
        by_cases h127 : 127 < sh
        · exact absurd hab (hd_z h127)
        · exfalso
          have hcc : cellM E (adB σ sh) th ca sm γ1 (adMB σ β a2 z) 9 (nB σ) = if nB σ < nB σ + 1 ∧ 127 < (if 28 = 28 ∧ nB σ = nB σ then sh else σ.2.1 28 (nB σ)) then some (.inr (14, [.int (if 28 = 28 ∧ nB σ = nB σ then sh else σ.2.1 28 (nB σ))])) else none := rfl
          rw [hcc, if_pos (⟨rfl, rfl⟩ : 28 = 28 ∧ nB σ = nB σ), if_neg (fun z => h127 z.2)] at he'
          cases he'
      · rw [A3_9, A22] at hab
        by_cases h127 : 127 < sh
        · exact absurd hab.symm (hd_z h127)
        · exfalso
          have hcc : cellM E (adB σ sh) th ca sm γ1 (adMB σ β a2 z) 9 (nB σ) = if nB σ < nB σ + 1 ∧ 127 < (if 28 = 28 ∧ nB σ = nB σ then sh else σ.2.1 28 (nB σ)) then some (.inr (14, [.int (if 28 = 28 ∧ nB σ = nB σ then sh else σ.2.1 28 (nB σ))])) else none := rfl
          rw [hcc, if_pos (⟨rfl, rfl⟩ : 28 = 28 ∧ nB σ = nB σ), if_neg (fun z => h127 z.2)] at he
          cases he

def adMW (σ : St) (β : Nat → Nat → Nat) (a2 z : Nat) : Nat → Nat → Nat := fun i j => if i = 2 ∧ j = 2 then a2 else if i = 5 ∧ j = nW σ then z else β i j
set_option maxHeartbeats 4000000 in
theorem RM.gwW (h : RM D E β F σ th ca sm H) : ∃ (cap : Nat) (mc : Int32) (g : Nat → Option Nat), LR D E (β 1 2) (β 2 2) (nW σ) cap mc g H ∧ mc = nI (nW σ) ∧ (∀ k, k < nW σ → g k = some (β 5 k)) ∧ F (β 1 2) ∧ (cap ≠ 0 → F (β 2 2)) ∧ cap ≤ 10 + 2 * nW σ ∧ (cap ≠ 0 → β 1 2 ≠ β 2 2) ∧
    ∀ (H1 : Heap) (a2 z cap2 : Nat) (g2 : Nat → Option Nat) (band day town : Nat) (start len songs told : Int32), LR D E (β 1 2) a2 (nW σ + 1) cap2 (mc + 1) g2 H1 → cap2 ≠ 0 → (cap2 ≤ 100 ∧ (cap2 ≤ 2 * nW σ + 10 ∨ cap2 = cap)) → (∀ k, k < nW σ → g2 k = g k) → g2 (nW σ) = some z → ((a2 = β 2 2 ∧ cap ≠ 0) ∨ (¬ F a2 ∧ F' a2)) → (∀ q : Nat, q < H.size → q ≠ β 1 2 → (cap ≠ 0 → q ≠ β 2 2) → H1[q]? = H[q]?) → va_at D vwCl (z, .inr (9, [.int (nI band), .int (nI day), .int (nI town), .int start, .int len, .int songs, .int told, .int (nI 0), .int 0, .int 0, .int 0, .int 0])) H1 → ¬ F z → F' z → a2 ≠ z → (∀ q, F q → F' q) → (∀ q, F' q → E 0 ≤ q) → nW σ < 14 → band < nB σ → day < 366 → town < 6 → RM D E (adMW σ β a2 z) F' (adW σ band day town start len songs told) th ca sm H1 := by
  obtain ⟨h1, h0, γ, h2, h3⟩ := h
  obtain ⟨q1, ⟨q2, q2'⟩, q3⟩ := h2.1 2 (by decide)
  have q2' : γ.2.1 2 ≤ 10 + 2 * nW σ := q2'
  have hlc : cellM E σ th ca sm γ β 1 2 = some (.inr (13, [.int (nI (mCnt σ 2)), .ref (β 2 2), .int (nI (nW σ))])) := rfl
  have hl := h3.1 1 2 _ hlc
  have hac : γ.2.1 2 ≠ 0 → cellM E σ th ca sm γ β 2 2 = some (arQ E (γ.2.1 2) (fun k => if k < nW σ then some (β 5 k) else γ.2.2 2 k)) := fun hc0 => if_pos ⟨by decide, hc0⟩
  have hne : γ.2.1 2 ≠ 0 → β 1 2 ≠ β 2 2 := fun hc0 e => by
    have := (h3.2 1 2 2 2 _ _ hlc (hac hc0) e).1
    omega
  refine ⟨γ.2.1 2, nI (mCnt σ 2), (fun k => if k < nW σ then some (β 5 k) else γ.2.2 2 k), ⟨hl.1, q1, by omega, ?_⟩, rfl, (fun k hk => if_pos hk), hl.2, (fun hc0 => (h3.1 2 2 _ (hac hc0)).2), q2', hne, ?_⟩
  · by_cases hc0 : γ.2.1 2 = 0
    · exact Or.inl ⟨hc0, q3 hc0⟩
    · exact Or.inr ⟨hc0, (h3.1 2 2 _ (hac hc0)).1⟩
  · intro H1 a2 z cap2 g2 band day town start len songs told hL hc2 hcb hg hgn ha2 hq hz_z hn_z hf_z hd_z hFF hE hy0 hy1 hy2 hy3
    have hkeep : ∀ i j e, cellM E σ th ca sm γ β i j = some e → (i ≠ 2 ∨ j ≠ 2) → (i ≠ 1 ∨ j ≠ 2) → va_at D vwCl (β i j, e) H1 := by
      intro i j e he hij hij1
      refine (h3.1 i j e he).1.kept (hq _ (h3.1 i j e he).1.lt (fun z => ?_) (fun hc0 z => ?_))
      · have := h3.2 i j 1 2 _ _ he hlc z
        omega
      · have := h3.2 i j 2 2 _ _ he (hac hc0) z
        omega
    obtain ⟨hL1, hL2, hL3, hL4⟩ := hL
    have hL4 : va_at D vwCl (a2, arQ E cap2 g2) H1 := hL4.elim (fun z => absurd z.1 hc2) (fun z => z.2)
    have A2 : ∀ {i j}, ¬ (i = 2 ∧ j = 2) → ¬ (i = 5 ∧ j = nW σ) → (adMW σ β a2 z) i j = β i j := by
      intro i j n0 n1
      unfold adMW
      rw [if_neg n0, if_neg n1]
    have A22 : (adMW σ β a2 z) 2 2 = a2 := if_pos ⟨rfl, rfl⟩
    have A3_5 : (adMW σ β a2 z) 5 (nW σ) = z := by
      unfold adMW
      rw [if_neg (by omega), if_pos ⟨rfl, rfl⟩]
    obtain ⟨γ1, hγ⟩ : ∃ γ1 : Gh, γ1 = ((fun i => if i = 2 then nI (mCnt σ 2) + 1 else γ.1 i, fun i => if i = 2 then cap2 else γ.2.1 i, fun i k => if i = 2 then g2 k else γ.2.2 i k) : Gh) := ⟨_, rfl⟩
    have hls : mLs E (adW σ band day town start len songs told) γ1 (adMW σ β a2 z) := by
      refine ⟨fun j0 hj4 => ?_, fun b hb => ?_⟩
      · subst hγ
        by_cases hj : j0 = 2
        · subst hj
          refine ⟨?_, ?_, ?_⟩
          · show nW σ + 1 ≤ cap2
            exact hL2
          · show cap2 ≤ 100 ∧ cap2 ≤ 10 + 2 * (nW σ + 1)
            omega
          · intro z
            exact absurd z hc2
        · have e1 : mCnt (adW σ band day town start len songs told) j0 = mCnt σ j0 := by
            match j0, hj with
            | 0, _ => rfl
            | 1, _ => rfl
            | x + 3, _ => exact absurd hj4 (by omega)
          have e2 : (adMW σ β a2 z) 2 j0 = β 2 j0 := A2 (fun z => hj z.2) (fun z => absurd z.1 (by decide))
          rw [e1, e2]
          refine ⟨?_, ?_, ?_⟩
          · show mCnt σ j0 ≤ (if j0 = 2 then cap2 else γ.2.1 j0)
            rw [if_neg hj]; exact (h2.1 j0 hj4).1
          · show (if j0 = 2 then cap2 else γ.2.1 j0) ≤ 100 ∧ (if j0 = 2 then cap2 else γ.2.1 j0) ≤ 10 + 2 * mCnt σ j0
            rw [if_neg hj]; exact (h2.1 j0 hj4).2.1
          · show (if j0 = 2 then cap2 else γ.2.1 j0) = 0 → _
            rw [if_neg hj]; exact (h2.1 j0 hj4).2.2
      · have hb : b < nB σ := hb
        have e2 : (adMW σ β a2 z) 9 b = β 9 b := A2 (by omega) (fun z => absurd z.1 (by decide))
        rw [e2]
        exact h2.2 b hb
    refine ⟨adW_RI h1 hy0 hy1 hy2 hy3, hE, γ1, hls, Rep.re (fun i j0 => (i = 2 ∧ j0 = 2 ∧ ¬ F a2) ∨ (i = 5 ∧ j0 = (nW σ))) h3 hFF (fun i j0 e' he' => ?_) ?_⟩
    · match i with
      | 0 =>
        have e : cellM E (adW σ band day town start len songs told) th ca sm γ1 (adMW σ β a2 z) 0 j0 = cellM E σ th ca sm γ β 0 j0 := by subst hγ; rfl
        rw [e] at he'
        have ea : (adMW σ β a2 z) 0 j0 = β 0 j0 := A2 (by omega) (by omega)
        rw [ea]
        exact ⟨hkeep 0 j0 e' he' (Or.inl (by decide)) (Or.inl (by decide)), Or.inl ⟨(fun z => by rcases z with z | z <;> exact absurd z.1 (by decide)), ⟨e', he'⟩, rfl⟩⟩
      | 1 =>
        by_cases hj : j0 = 2
        · subst hj
          have hc : cellM E (adW σ band day town start len songs told) th ca sm γ1 (adMW σ β a2 z) 1 2 = some (.inr (13, [.int (nI (nW σ + 1)), .ref a2, .int (nI (nW σ + 1))])) := by subst hγ; rfl
          rw [hc] at he'
          rw [← Option.some.inj he']
          have ea : (adMW σ β a2 z) 1 2 = β 1 2 := A2 (by omega) (by omega)
          rw [ea]
          exact ⟨(by have h9 : va_at D vwCl (β 1 2, .inr (13, [.int (nI (nW σ) + 1), .ref a2, .int (nI (nW σ + 1))])) H1 := hL1; rw [nI_1 (nW σ)] at h9; exact h9), Or.inl ⟨(fun z => by rcases z with z | z <;> exact absurd z.1 (by decide)), ⟨_, hlc⟩, rfl⟩⟩
        · have e : cellM E (adW σ band day town start len songs told) th ca sm γ1 (adMW σ β a2 z) 1 j0 = cellM E σ th ca sm γ β 1 j0 := by
            subst hγ
            match j0, hj with
            | 0, _ => rfl
            | 1, _ => rfl
            | x + 3, _ => simp only [cellM]; rw [if_neg (by omega), if_neg (by omega)]
          rw [e] at he'
          have ea : (adMW σ β a2 z) 1 j0 = β 1 j0 := A2 (by omega) (by omega)
          rw [ea]
          exact ⟨hkeep 1 j0 e' he' (Or.inl (by decide)) (Or.inr hj), Or.inl ⟨(fun z => by rcases z with z | z <;> exact absurd z.1 (by decide)), ⟨e', he'⟩, rfl⟩⟩
      | 2 =>
        by_cases hj : j0 = 2
        · subst hj
          have hc : cellM E (adW σ band day town start len songs told) th ca sm γ1 (adMW σ β a2 z) 2 2 = some (arQ E cap2 g2) := by
            subst hγ
            refine (if_pos ⟨by decide, hc2⟩).trans ?_
            show some (arQ E cap2 (fun k => if k < nW σ + 1 then some ((adMW σ β a2 z) 5 k) else g2 k)) = _
            congr 2
            funext k
            by_cases hk : k < nW σ
            · rw [if_pos (by omega), hg k hk, A2 (by omega) (by omega)]
              exact (if_pos hk).symm
            · by_cases hk2 : k = nW σ
              · subst hk2; rw [if_pos (by omega), hgn, A3_5]
              · rw [if_neg (by omega)]
          rw [hc] at he'
          rw [← Option.some.inj he', A22]
          refine ⟨hL4, ?_⟩
          rcases ha2 with ⟨hz1, hz2⟩ | ⟨hz1, hz2⟩
          · refine Or.inl ⟨fun z => ?_, ⟨_, hac hz2⟩, hz1⟩
            rcases z with z | z
            · exact z.2.2 (by rw [hz1]; exact (h3.1 2 2 _ (hac hz2)).2)
            · exact absurd z.1 (by decide)
          · exact Or.inr ⟨Or.inl ⟨rfl, rfl, hz1⟩, hz2, hz1⟩
        · have e : cellM E (adW σ band day town start len songs told) th ca sm γ1 (adMW σ β a2 z) 2 j0 = cellM E σ th ca sm γ β 2 j0 := by
            subst hγ
            match j0, hj with
            | 0, _ => rfl
            | 1, _ => rfl
            | x + 3, _ => simp only [cellM]; rw [if_neg (by omega), if_neg (by omega)]
          rw [e] at he'
          have ea : (adMW σ β a2 z) 2 j0 = β 2 j0 := A2 (by omega) (by omega)
          rw [ea]
          exact ⟨hkeep 2 j0 e' he' (Or.inr hj) (Or.inl (by decide)), Or.inl ⟨fun z => by rcases z with z | z; exact hj z.2.1; all_goals exact absurd z.1 (by decide), ⟨e', he'⟩, rfl⟩⟩
      | 3 =>
        have e : cellM E (adW σ band day town start len songs told) th ca sm γ1 (adMW σ β a2 z) 3 j0 = cellM E σ th ca sm γ β 3 j0 := by subst hγ; rfl
        rw [e] at he'
        have ea : (adMW σ β a2 z) 3 j0 = β 3 j0 := A2 (by omega) (by omega)
        rw [ea]
        exact ⟨hkeep 3 j0 e' he' (Or.inl (by decide)) (Or.inl (by decide)), Or.inl ⟨(fun z => by rcases z with z | z <;> exact absurd z.1 (by decide)), ⟨e', he'⟩, rfl⟩⟩
      | 4 =>
        have e : cellM E (adW σ band day town start len songs told) th ca sm γ1 (adMW σ β a2 z) 4 j0 = cellM E σ th ca sm γ β 4 j0 := by subst hγ; rfl
        rw [e] at he'
        have ea : (adMW σ β a2 z) 4 j0 = β 4 j0 := A2 (by omega) (by omega)
        rw [ea]
        exact ⟨hkeep 4 j0 e' he' (Or.inl (by decide)) (Or.inl (by decide)), Or.inl ⟨(fun z => by rcases z with z | z <;> exact absurd z.1 (by decide)), ⟨e', he'⟩, rfl⟩⟩
      | 5 =>
        by_cases hj : j0 = (nW σ)
        · subst hj
          have hc : cellM E (adW σ band day town start len songs told) th ca sm γ1 (adMW σ β a2 z) 5 (nW σ) = some (.inr (9, [.int (nI band), .int (nI day), .int (nI town), .int start, .int len, .int songs, .int told, .int (nI 0), .int 0, .int 0, .int 0, .int 0])) := by
            have h9 : nW σ < nW (adW σ band day town start len songs told) := Nat.lt_succ_self _
            refine (if_pos h9).trans ?_
            simp [adW, nW, wBand, wDay, wTown, wState, wStart, wLen, wSongs, wTold, wSet, wPrice, wPaid, wLate]
          rw [hc] at he'
          rw [← Option.some.inj he', A3_5]
          exact ⟨hz_z, Or.inr ⟨Or.inr ⟨rfl, rfl⟩, hf_z, hn_z⟩⟩
        · have e : cellM E (adW σ band day town start len songs told) th ca sm γ1 (adMW σ β a2 z) 5 j0 = cellM E σ th ca sm γ β 5 j0 := by
            have eR : ∀ a, (adW σ band day town start len songs told).2.1 a j0 = σ.2.1 a j0 := fun a => if_neg (fun z => hj z.2)
            have eN : ∀ a, a ≠ 0 → (adW σ band day town start len songs told).1 a j0 = σ.1 a j0 := fun a ha => by
              show (if _ then _ else _) = _
              rw [if_neg (fun z => ha z.1), if_neg (fun z => hj z.2)]
            by_cases hjn : j0 < nW σ
            · have h1 : j0 < nW (adW σ band day town start len songs told) := Nat.lt_succ_of_lt hjn
              refine (if_pos h1).trans (Eq.trans ?_ (if_pos hjn).symm)
              simp only [nP, nB, nW, pHome, wTown, wBand, wDay, wState, tod, pIns, pFee, pSongs, pFeuds, pEarned, wStart, wLen, wSongs, wTold, wSet, wPrice, wPaid, wLate, bShape, sKey, sEnergy, sMin, sPlayed, eR, eN 1 (by decide), eN 2 (by decide), eN 3 (by decide), eN 4 (by decide), eN 5 (by decide)]
            · have h1 : ¬ j0 < nW (adW σ band day town start len songs told) := fun z => by have z : j0 < nW σ + 1 := z; omega
              exact (if_neg h1).trans (if_neg hjn).symm
          rw [e] at he'
          have ea : (adMW σ β a2 z) 5 j0 = β 5 j0 := A2 (by omega) (fun z => hj z.2)
          rw [ea]
          exact ⟨hkeep 5 j0 e' he' (Or.inl (by decide)) (Or.inl (by decide)), Or.inl ⟨fun z => by rcases z with z | z <;> first | exact absurd z.1 (by decide) | exact hj z.2, ⟨e', he'⟩, rfl⟩⟩
      | 6 =>
        have e : cellM E (adW σ band day town start len songs told) th ca sm γ1 (adMW σ β a2 z) 6 j0 = cellM E σ th ca sm γ β 6 j0 := by subst hγ; rfl
        rw [e] at he'
        have ea : (adMW σ β a2 z) 6 j0 = β 6 j0 := A2 (by omega) (by omega)
        rw [ea]
        exact ⟨hkeep 6 j0 e' he' (Or.inl (by decide)) (Or.inl (by decide)), Or.inl ⟨(fun z => by rcases z with z | z <;> exact absurd z.1 (by decide)), ⟨e', he'⟩, rfl⟩⟩
      | 7 =>
        have e : cellM E (adW σ band day town start len songs told) th ca sm γ1 (adMW σ β a2 z) 7 j0 = cellM E σ th ca sm γ β 7 j0 := by subst hγ; rfl
        rw [e] at he'
        have ea : (adMW σ β a2 z) 7 j0 = β 7 j0 := A2 (by omega) (by omega)
        rw [ea]
        exact ⟨hkeep 7 j0 e' he' (Or.inl (by decide)) (Or.inl (by decide)), Or.inl ⟨(fun z => by rcases z with z | z <;> exact absurd z.1 (by decide)), ⟨e', he'⟩, rfl⟩⟩
      | 8 =>
        have e : cellM E (adW σ band day town start len songs told) th ca sm γ1 (adMW σ β a2 z) 8 j0 = cellM E σ th ca sm γ β 8 j0 := by subst hγ; rfl
        rw [e] at he'
        have ea : (adMW σ β a2 z) 8 j0 = β 8 j0 := A2 (by omega) (by omega)
        rw [ea]
        exact ⟨hkeep 8 j0 e' he' (Or.inl (by decide)) (Or.inl (by decide)), Or.inl ⟨(fun z => by rcases z with z | z <;> exact absurd z.1 (by decide)), ⟨e', he'⟩, rfl⟩⟩
      | 9 =>
        have e : cellM E (adW σ band day town start len songs told) th ca sm γ1 (adMW σ β a2 z) 9 j0 = cellM E σ th ca sm γ β 9 j0 := by subst hγ; rfl
        rw [e] at he'
        have ea : (adMW σ β a2 z) 9 j0 = β 9 j0 := A2 (by omega) (by omega)
        rw [ea]
        exact ⟨hkeep 9 j0 e' he' (Or.inl (by decide)) (Or.inl (by decide)), Or.inl ⟨(fun z => by rcases z with z | z <;> exact absurd z.1 (by decide)), ⟨e', he'⟩, rfl⟩⟩
      | x + 10 => cases he'
    · intro i j0 i' j0' e e' n1 n2 he he' hab
      rcases n1 with ⟨rfl, rfl, m1⟩ | ⟨rfl, rfl⟩ <;> rcases n2 with ⟨rfl, rfl, m2⟩ | ⟨rfl, rfl⟩ <;> first | exact ⟨rfl, rfl⟩ | skip
      · rw [A22, A3_5] at hab; exact absurd hab hd_z
      · rw [A3_5, A22] at hab; exact absurd hab.symm hd_z

end SETS
