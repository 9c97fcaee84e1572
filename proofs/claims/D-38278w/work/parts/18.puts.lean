/-! writes, and what the pictures become -/
set_option maxRecDepth 100000
def sW (σ : St) (f k : Nat) (v : Int32) : St := (σ.1, (fun a b => if a = f ∧ b = k then v else σ.2.1 a b), σ.2.2)
def sN (σ : St) (f k v : Nat) : St := ((fun a b => if a = f ∧ b = k then v else σ.1 a b), σ.2.1, σ.2.2)
def sO (σ : St) (k j : Nat) (v : Int32) : St := (σ.1, σ.2.1, (fun a b => if a = k ∧ b = j then v else σ.2.2 a b))
theorem sW_1 {σ : St} {f k : Nat} {v : Int32} : (sW σ f k v).1 = σ.1 := rfl
theorem sW_21 {σ : St} {f k a b : Nat} {v : Int32} : (sW σ f k v).2.1 a b = if a = f ∧ b = k then v else σ.2.1 a b := rfl
theorem sW_gv {σ : St} {f k b : Nat} {v : Int32} (h : 1000 + b ≠ f) : bGiv (sW σ f k v) b = bGiv σ b := funext fun x => if_neg (fun z => h z.1)
theorem sW_row {σ : St} {f k a : Nat} {v : Int32} (h : a ≠ f) : (fun x => (sW σ f k v).2.1 a x) = fun x => σ.2.1 a x := funext fun x => if_neg (fun z => h z.1)
theorem lt1000 {n k : Nat} (h : n < 1000) : (n = 1000 + k) = False := by
  apply propext
  constructor
  · intro e; omega
  · intro e; exact e.elim
theorem sW_22 {σ : St} {f k : Nat} {v : Int32} : (sW σ f k v).2.2 = σ.2.2 := rfl
theorem sN_1 {σ : St} {f k v a b : Nat} : (sN σ f k v).1 a b = if a = f ∧ b = k then v else σ.1 a b := rfl
theorem sN_21 {σ : St} {f k v : Nat} : (sN σ f k v).2.1 = σ.2.1 := rfl
theorem sN_22 {σ : St} {f k v : Nat} : (sN σ f k v).2.2 = σ.2.2 := rfl
theorem sO_1 {σ : St} {f k : Nat} {v : Int32} : (sO σ f k v).1 = σ.1 := rfl
theorem sO_21 {σ : St} {f k : Nat} {v : Int32} : (sO σ f k v).2.1 = σ.2.1 := rfl
theorem sO_22 {σ : St} {f k a b : Nat} {v : Int32} : (sO σ f k v).2.2 a b = if a = f ∧ b = k then v else σ.2.2 a b := rfl
/-- as many players, bands and weddings -/
def cnt (a b : St) : Prop := nP a = nP b ∧ nB a = nB b ∧ nW a = nW b
theorem cnt.rf {a : St} : cnt a a := ⟨rfl, rfl, rfl⟩
theorem cnt.p {a b : St} (h : cnt a b) {k : Nat} (hk : k < nP b) : k < nP a := by rw [h.1]; exact hk
theorem cnt.b {a b : St} (h : cnt a b) {k : Nat} (hk : k < nB b) : k < nB a := by rw [h.2.1]; exact hk
theorem cnt.w {a b : St} (h : cnt a b) {k : Nat} (hk : k < nW b) : k < nW a := by rw [h.2.2]; exact hk
theorem cnt.tr {a b c : St} (h : cnt a b) (g : cnt b c) : cnt a c := ⟨h.1.trans g.1, h.2.1.trans g.2.1, h.2.2.trans g.2.2⟩
theorem cnt.sW {a b : St} (h : cnt a b) {f k : Nat} {v : Int32} : cnt (sW a f k v) b := h
theorem cnt.sO {a b : St} (h : cnt a b) {f k : Nat} {v : Int32} : cnt (sO a f k v) b := h
theorem cnt.sN {a b : St} (h : cnt a b) {f k v : Nat} (hf : f ≠ 0) : cnt (sN a f k v) b := by
  refine ⟨Eq.trans ?_ h.1, Eq.trans ?_ h.2.1, Eq.trans ?_ h.2.2⟩ <;> exact if_neg (fun z => hf z.1.symm)
theorem xCnt_sW {σ : St} {f k : Nat} {v : Int32} : xCnt (sW σ f k v) = xCnt σ := by funext j; match j with | 0 => rfl | 1 => rfl | 2 => rfl | j + 3 => rfl
theorem xCnt_sO {σ : St} {f k : Nat} {v : Int32} : xCnt (sO σ f k v) = xCnt σ := by funext j; match j with | 0 => rfl | 1 => rfl | 2 => rfl | j + 3 => rfl
theorem xCnt_sN {σ : St} {k v : Nat} : xCnt (sN σ 5 k v) = xCnt σ := by funext j; match j with | 0 => rfl | 1 => rfl | 2 => rfl | j + 3 => rfl
theorem mCnt_sW {σ : St} {f k : Nat} {v : Int32} : mCnt (sW σ f k v) = mCnt σ := by funext j; match j with | 0 => rfl | 1 => rfl | j + 2 => rfl
theorem mCnt_sO {σ : St} {f k : Nat} {v : Int32} : mCnt (sO σ f k v) = mCnt σ := by funext j; match j with | 0 => rfl | 1 => rfl | j + 2 => rfl
theorem mCnt_sN {σ : St} {k v : Nat} : mCnt (sN σ 5 k v) = mCnt σ := by funext j; match j with | 0 => rfl | 1 => rfl | j + 2 => rfl
theorem RI.sN5 {σ : St} (h : RI σ) {k v : Nat} (hv : v < 4) : RI (sN σ 5 k v) := by
  obtain ⟨h1, h2, h3, h4, h5⟩ := h
  refine ⟨h1, h2, h3, h4, fun j hj => ?_⟩
  obtain ⟨g1, g2, g3, g4⟩ := h5 j hj
  refine ⟨g1, g2, g3, ?_⟩
  show (if 5 = 5 ∧ j = k then v else wState σ j) < 4
  split
  · exact hv
  · exact g4
theorem Rep.put {D : va_G} {C C' : Nat → Nat → Option va_E} {α : Nat → Nat → Nat} {F : Nat → Prop} {H H1 : Heap} {i j : Nat} {e0 e : va_E} (h : Rep D C α F H) (hC : C i j = some e0) (he : va_at D vwCl (α i j, e) H1) (hq : ∀ q, q ≠ α i j → H1[q]? = H[q]?) (hC' : ∀ i' j', C' i' j' = if i' = i ∧ j' = j then some e else C i' j') : Rep D C' α F H1 := by
  have key : ∀ i' j' e', C' i' j' = some e' → ∃ e1, C i' j' = some e1 := by
    intro i' j' e' h'
    rw [hC'] at h'
    split at h'
    · rename_i hz
      exact ⟨e0, by rw [hz.1, hz.2]; exact hC⟩
    · exact ⟨_, h'⟩
  refine ⟨fun i' j' e' h' => ?_, fun a b a' b' x y hx hy hab => ?_⟩
  · rw [hC'] at h'
    split at h'
    · rename_i hz
      obtain ⟨rfl, rfl⟩ := hz
      cases h'
      exact ⟨he, (h.1 _ _ _ hC).2⟩
    · rename_i hz
      refine ⟨(h.1 _ _ _ h').1.kept (hq _ (fun z => hz ?_)), (h.1 _ _ _ h').2⟩
      exact h.2 _ _ _ _ _ _ h' hC z
  · obtain ⟨x1, hx1⟩ := key _ _ _ hx
    obtain ⟨y1, hy1⟩ := key _ _ _ hy
    exact h.2 _ _ _ _ _ _ hx1 hy1 hab
theorem Rep.mono {D : va_G} {C : Nat → Nat → Option va_E} {α : Nat → Nat → Nat} {F F' : Nat → Prop} {H : Heap} (h : Rep D C α F H) (hF : ∀ q, q < H.size → F q → F' q) : Rep D C α F' H :=
  ⟨fun i j e he => ⟨(h.1 i j e he).1, hF _ (h.1 i j e he).1.lt (h.1 i j e he).2⟩, h.2⟩
theorem RX.mono {D : va_G} {E : Nat → Nat} {α : Nat → Nat → Nat} {F F' : Nat → Prop} {σ : St} {H : Heap} (h : RX D E α F σ H) (hF : ∀ q, q < H.size → F q → F' q) (hE : ∀ q, F' q → E 0 ≤ q) : RX D E α F' σ H := by
  obtain ⟨h1, h0, γ, h2, h3⟩ := h
  exact ⟨h1, hE, γ, h2, h3.mono hF⟩
theorem RM.mono {D : va_G} {E : Nat → Nat} {β : Nat → Nat → Nat} {F F' : Nat → Prop} {σ : St} {th ca : Int32} {sm : Int64} {H : Heap} (h : RM D E β F σ th ca sm H) (hF : ∀ q, q < H.size → F q → F' q) (hE : ∀ q, F' q → E 0 ≤ q) : RM D E β F' σ th ca sm H := by
  obtain ⟨h1, h0, γ, h2, h3⟩ := h
  exact ⟨h1, hE, γ, h2, h3.mono hF⟩
theorem RX.fE {D : va_G} {E : Nat → Nat} {α : Nat → Nat → Nat} {F : Nat → Prop} {σ : St} {H : Heap} (h : RX D E α F σ H) : ∀ q, F q → E 0 ≤ q := h.2.1
theorem RM.fE {D : va_G} {E : Nat → Nat} {β : Nat → Nat → Nat} {F : Nat → Prop} {σ : St} {th ca : Int32} {sm : Int64} {H : Heap} (h : RM D E β F σ th ca sm H) : ∀ q, F q → E 0 ≤ q := h.2.1
theorem RX.wide {D : va_G} {E : Nat → Nat} {α : Nat → Nat → Nat} {F : Nat → Prop} {σ : St} {H : Heap} {n : Nat} (h : RX D E α F σ H) (hn : E 0 ≤ n) : RX D E α (fN F n) σ H := h.mono (fun _ _ z => Or.inl z) (fun q z => z.elim (h.fE q) (fun z => Nat.le_trans hn z))
theorem RM.wide {D : va_G} {E : Nat → Nat} {β : Nat → Nat → Nat} {F : Nat → Prop} {σ : St} {th ca : Int32} {sm : Int64} {H : Heap} {n : Nat} (h : RM D E β F σ th ca sm H) (hn : E 0 ≤ n) : RM D E β (fN F n) σ th ca sm H := h.mono (fun _ _ z => Or.inl z) (fun q z => z.elim (h.fE q) (fun z => Nat.le_trans hn z))
/-- the set cut down to what stands -/
theorem RX.nar {D : va_G} {E : Nat → Nat} {α : Nat → Nat → Nat} {F : Nat → Prop} {σ : St} {H : Heap} (h : RX D E α F σ H) : ∃ F' : Nat → Prop, RX D E α F' σ H ∧ ∀ q, F' q → F q ∧ q < H.size :=
  ⟨fun q => F q ∧ q < H.size, h.mono (fun q h1 h2 => ⟨h2, h1⟩) (fun q z => h.fE q z.1), fun q z => z⟩
theorem RM.nar {D : va_G} {E : Nat → Nat} {β : Nat → Nat → Nat} {F : Nat → Prop} {σ : St} {th ca : Int32} {sm : Int64} {H : Heap} (h : RM D E β F σ th ca sm H) : ∃ F' : Nat → Prop, RM D E β F' σ th ca sm H ∧ ∀ q, F' q → F q ∧ q < H.size :=
  ⟨fun q => F q ∧ q < H.size, h.mono (fun q h1 h2 => ⟨h2, h1⟩) (fun q z => h.fE q z.1), fun q z => z⟩
theorem fN_fN {F : Nat → Prop} {a b : Nat} (hab : a ≤ b) : ∀ q, fN (fN F a) b q → fN F a q := fun q z => z.elim id (fun z => Or.inr (Nat.le_trans hab z))
set_option maxHeartbeats 4000000 in
theorem RX.Pp12 {D : va_G} {E : Nat → Nat} {α : Nat → Nat → Nat} {F : Nat → Prop} {σ : St} {H H1 : Heap} (h : RX D E α F σ H) {k : Nat} (hk : k < nP σ) {v : Int32} (he : va_at D vwCl (α 3 k, .inr (5, [.int (pIns σ k), .int (nI (pHome σ k)), .int (pFee σ k), .int v, .int (pFeuds σ k), .int (pEarned σ k), .ref (α 4 k)])) H1) (hq : ∀ q, q ≠ α 3 k → H1[q]? = H[q]?) : RX D E α F (sW σ 12 k v) H1 := by
  obtain ⟨h1, h0, γ, h2, h3⟩ := h
  refine ⟨h1, h0, γ, (fun a ha => by rw [xCnt_sW]; exact h2 a ha), h3.put (i := 3) (j := k) (e0 := _) (if_pos hk) he hq (fun i' j' => ?_)⟩
  by_cases hi : i' = 3
  · subst hi
    by_cases hj : j' = k
    · subst hj
      rw [if_pos ⟨rfl, rfl⟩]
      simp [cellX, arI, arZ, mArr, nP, nB, nW, pHome, wTown, wBand, wDay, wState, tod, pIns, pFee, pSongs, pFeuds, pEarned, wStart, wLen, wSongs, wTold, wSet, wPrice, wPaid, wLate, bShape, sKey, sEnergy, sMin, sPlayed, rHours, rDrives, pOff, bGiv, sW_1, sW_21, sW_22, sN_1, sN_21, sN_22, sO_1, sO_21, sO_22, hk]
      try rfl
    · rw [if_neg (fun z => hj z.2)]
      simp [cellX, arI, arZ, mArr, nP, nB, nW, pHome, wTown, wBand, wDay, wState, tod, pIns, pFee, pSongs, pFeuds, pEarned, wStart, wLen, wSongs, wTold, wSet, wPrice, wPaid, wLate, bShape, sKey, sEnergy, sMin, sPlayed, rHours, rDrives, pOff, bGiv, sW_1, sW_21, sW_22, sN_1, sN_21, sN_22, sO_1, sO_21, sO_22, hj]
      try rfl
  · rw [if_neg (fun z => hi z.1)]
    match i', hi with
    | 0, _ => first | rfl | (simp [cellX, arI, arZ, arQ, bNeed, mArr, nP, nB, nW, pHome, wTown, wBand, wDay, wState, tod, pIns, pFee, pSongs, pFeuds, pEarned, wStart, wLen, wSongs, wTold, wSet, wPrice, wPaid, wLate, bShape, sKey, sEnergy, sMin, sPlayed, rHours, rDrives, pOff, bGiv, sW_1, sW_21, sW_22, sN_1, sN_21, sN_22, sO_1, sO_21, sO_22, xCnt_sW, xCnt_sN, xCnt_sO]; try rfl)
    | 1, _ => first | rfl | (simp [cellX, arI, arZ, arQ, bNeed, mArr, nP, nB, nW, pHome, wTown, wBand, wDay, wState, tod, pIns, pFee, pSongs, pFeuds, pEarned, wStart, wLen, wSongs, wTold, wSet, wPrice, wPaid, wLate, bShape, sKey, sEnergy, sMin, sPlayed, rHours, rDrives, pOff, bGiv, sW_1, sW_21, sW_22, sN_1, sN_21, sN_22, sO_1, sO_21, sO_22, xCnt_sW, xCnt_sN, xCnt_sO]; try rfl)
    | 2, _ => first | rfl | (simp [cellX, arI, arZ, arQ, bNeed, mArr, nP, nB, nW, pHome, wTown, wBand, wDay, wState, tod, pIns, pFee, pSongs, pFeuds, pEarned, wStart, wLen, wSongs, wTold, wSet, wPrice, wPaid, wLate, bShape, sKey, sEnergy, sMin, sPlayed, rHours, rDrives, pOff, bGiv, sW_1, sW_21, sW_22, sN_1, sN_21, sN_22, sO_1, sO_21, sO_22, xCnt_sW, xCnt_sN, xCnt_sO]; try rfl)
    | 4, _ => first | rfl | (simp [cellX, arI, arZ, arQ, bNeed, mArr, nP, nB, nW, pHome, wTown, wBand, wDay, wState, tod, pIns, pFee, pSongs, pFeuds, pEarned, wStart, wLen, wSongs, wTold, wSet, wPrice, wPaid, wLate, bShape, sKey, sEnergy, sMin, sPlayed, rHours, rDrives, pOff, bGiv, sW_1, sW_21, sW_22, sN_1, sN_21, sN_22, sO_1, sO_21, sO_22, xCnt_sW, xCnt_sN, xCnt_sO]; try rfl)
    | 5, _ => first | rfl | (simp [cellX, arI, arZ, arQ, bNeed, mArr, nP, nB, nW, pHome, wTown, wBand, wDay, wState, tod, pIns, pFee, pSongs, pFeuds, pEarned, wStart, wLen, wSongs, wTold, wSet, wPrice, wPaid, wLate, bShape, sKey, sEnergy, sMin, sPlayed, rHours, rDrives, pOff, bGiv, sW_1, sW_21, sW_22, sN_1, sN_21, sN_22, sO_1, sO_21, sO_22, xCnt_sW, xCnt_sN, xCnt_sO]; try rfl)
    | 6, _ => first | rfl | (simp [cellX, arI, arZ, arQ, bNeed, mArr, nP, nB, nW, pHome, wTown, wBand, wDay, wState, tod, pIns, pFee, pSongs, pFeuds, pEarned, wStart, wLen, wSongs, wTold, wSet, wPrice, wPaid, wLate, bShape, sKey, sEnergy, sMin, sPlayed, rHours, rDrives, pOff, bGiv, sW_1, sW_21, sW_22, sN_1, sN_21, sN_22, sO_1, sO_21, sO_22, xCnt_sW, xCnt_sN, xCnt_sO]; try rfl)
    | 7, _ => first | rfl | (simp [cellX, arI, arZ, arQ, bNeed, mArr, nP, nB, nW, pHome, wTown, wBand, wDay, wState, tod, pIns, pFee, pSongs, pFeuds, pEarned, wStart, wLen, wSongs, wTold, wSet, wPrice, wPaid, wLate, bShape, sKey, sEnergy, sMin, sPlayed, rHours, rDrives, pOff, bGiv, sW_1, sW_21, sW_22, sN_1, sN_21, sN_22, sO_1, sO_21, sO_22, xCnt_sW, xCnt_sN, xCnt_sO]; try rfl)
    | 8, _ => first | rfl | (simp [cellX, arI, arZ, arQ, bNeed, mArr, nP, nB, nW, pHome, wTown, wBand, wDay, wState, tod, pIns, pFee, pSongs, pFeuds, pEarned, wStart, wLen, wSongs, wTold, wSet, wPrice, wPaid, wLate, bShape, sKey, sEnergy, sMin, sPlayed, rHours, rDrives, pOff, bGiv, sW_1, sW_21, sW_22, sN_1, sN_21, sN_22, sO_1, sO_21, sO_22, xCnt_sW, xCnt_sN, xCnt_sO]; try rfl)
    | 9, _ => first | rfl | (simp [cellX, arI, arZ, arQ, bNeed, mArr, nP, nB, nW, pHome, wTown, wBand, wDay, wState, tod, pIns, pFee, pSongs, pFeuds, pEarned, wStart, wLen, wSongs, wTold, wSet, wPrice, wPaid, wLate, bShape, sKey, sEnergy, sMin, sPlayed, rHours, rDrives, pOff, bGiv, sW_1, sW_21, sW_22, sN_1, sN_21, sN_22, sO_1, sO_21, sO_22, xCnt_sW, xCnt_sN, xCnt_sO]; try rfl)
    | 10, _ => first | rfl | (simp [cellX, arI, arZ, arQ, bNeed, mArr, nP, nB, nW, pHome, wTown, wBand, wDay, wState, tod, pIns, pFee, pSongs, pFeuds, pEarned, wStart, wLen, wSongs, wTold, wSet, wPrice, wPaid, wLate, bShape, sKey, sEnergy, sMin, sPlayed, rHours, rDrives, pOff, bGiv, sW_1, sW_21, sW_22, sN_1, sN_21, sN_22, sO_1, sO_21, sO_22, xCnt_sW, xCnt_sN, xCnt_sO]; try rfl)
    | 11, _ =>
      have e9 : bGiv (sW σ 12 k v) j' = bGiv σ j' := sW_gv (by omega)
      show (if j' < nB σ then some (arI E 6 (bGiv (sW σ 12 k v) j')) else none) = _
      rw [e9]
      rfl
    | n + 12, _ => rfl

set_option maxHeartbeats 4000000 in
theorem RX.Pp13 {D : va_G} {E : Nat → Nat} {α : Nat → Nat → Nat} {F : Nat → Prop} {σ : St} {H H1 : Heap} (h : RX D E α F σ H) {k : Nat} (hk : k < nP σ) {v : Int32} (he : va_at D vwCl (α 3 k, .inr (5, [.int (pIns σ k), .int (nI (pHome σ k)), .int (pFee σ k), .int (pSongs σ k), .int v, .int (pEarned σ k), .ref (α 4 k)])) H1) (hq : ∀ q, q ≠ α 3 k → H1[q]? = H[q]?) : RX D E α F (sW σ 13 k v) H1 := by
  obtain ⟨h1, h0, γ, h2, h3⟩ := h
  refine ⟨h1, h0, γ, (fun a ha => by rw [xCnt_sW]; exact h2 a ha), h3.put (i := 3) (j := k) (e0 := _) (if_pos hk) he hq (fun i' j' => ?_)⟩
  by_cases hi : i' = 3
  · subst hi
    by_cases hj : j' = k
    · subst hj
      rw [if_pos ⟨rfl, rfl⟩]
      simp [cellX, arI, arZ, mArr, nP, nB, nW, pHome, wTown, wBand, wDay, wState, tod, pIns, pFee, pSongs, pFeuds, pEarned, wStart, wLen, wSongs, wTold, wSet, wPrice, wPaid, wLate, bShape, sKey, sEnergy, sMin, sPlayed, rHours, rDrives, pOff, bGiv, sW_1, sW_21, sW_22, sN_1, sN_21, sN_22, sO_1, sO_21, sO_22, hk]
      try rfl
    · rw [if_neg (fun z => hj z.2)]
      simp [cellX, arI, arZ, mArr, nP, nB, nW, pHome, wTown, wBand, wDay, wState, tod, pIns, pFee, pSongs, pFeuds, pEarned, wStart, wLen, wSongs, wTold, wSet, wPrice, wPaid, wLate, bShape, sKey, sEnergy, sMin, sPlayed, rHours, rDrives, pOff, bGiv, sW_1, sW_21, sW_22, sN_1, sN_21, sN_22, sO_1, sO_21, sO_22, hj]
      try rfl
  · rw [if_neg (fun z => hi z.1)]
    match i', hi with
    | 0, _ => first | rfl | (simp [cellX, arI, arZ, arQ, bNeed, mArr, nP, nB, nW, pHome, wTown, wBand, wDay, wState, tod, pIns, pFee, pSongs, pFeuds, pEarned, wStart, wLen, wSongs, wTold, wSet, wPrice, wPaid, wLate, bShape, sKey, sEnergy, sMin, sPlayed, rHours, rDrives, pOff, bGiv, sW_1, sW_21, sW_22, sN_1, sN_21, sN_22, sO_1, sO_21, sO_22, xCnt_sW, xCnt_sN, xCnt_sO]; try rfl)
    | 1, _ => first | rfl | (simp [cellX, arI, arZ, arQ, bNeed, mArr, nP, nB, nW, pHome, wTown, wBand, wDay, wState, tod, pIns, pFee, pSongs, pFeuds, pEarned, wStart, wLen, wSongs, wTold, wSet, wPrice, wPaid, wLate, bShape, sKey, sEnergy, sMin, sPlayed, rHours, rDrives, pOff, bGiv, sW_1, sW_21, sW_22, sN_1, sN_21, sN_22, sO_1, sO_21, sO_22, xCnt_sW, xCnt_sN, xCnt_sO]; try rfl)
    | 2, _ => first | rfl | (simp [cellX, arI, arZ, arQ, bNeed, mArr, nP, nB, nW, pHome, wTown, wBand, wDay, wState, tod, pIns, pFee, pSongs, pFeuds, pEarned, wStart, wLen, wSongs, wTold, wSet, wPrice, wPaid, wLate, bShape, sKey, sEnergy, sMin, sPlayed, rHours, rDrives, pOff, bGiv, sW_1, sW_21, sW_22, sN_1, sN_21, sN_22, sO_1, sO_21, sO_22, xCnt_sW, xCnt_sN, xCnt_sO]; try rfl)
    | 4, _ => first | rfl | (simp [cellX, arI, arZ, arQ, bNeed, mArr, nP, nB, nW, pHome, wTown, wBand, wDay, wState, tod, pIns, pFee, pSongs, pFeuds, pEarned, wStart, wLen, wSongs, wTold, wSet, wPrice, wPaid, wLate, bShape, sKey, sEnergy, sMin, sPlayed, rHours, rDrives, pOff, bGiv, sW_1, sW_21, sW_22, sN_1, sN_21, sN_22, sO_1, sO_21, sO_22, xCnt_sW, xCnt_sN, xCnt_sO]; try rfl)
    | 5, _ => first | rfl | (simp [cellX, arI, arZ, arQ, bNeed, mArr, nP, nB, nW, pHome, wTown, wBand, wDay, wState, tod, pIns, pFee, pSongs, pFeuds, pEarned, wStart, wLen, wSongs, wTold, wSet, wPrice, wPaid, wLate, bShape, sKey, sEnergy, sMin, sPlayed, rHours, rDrives, pOff, bGiv, sW_1, sW_21, sW_22, sN_1, sN_21, sN_22, sO_1, sO_21, sO_22, xCnt_sW, xCnt_sN, xCnt_sO]; try rfl)
    | 6, _ => first | rfl | (simp [cellX, arI, arZ, arQ, bNeed, mArr, nP, nB, nW, pHome, wTown, wBand, wDay, wState, tod, pIns, pFee, pSongs, pFeuds, pEarned, wStart, wLen, wSongs, wTold, wSet, wPrice, wPaid, wLate, bShape, sKey, sEnergy, sMin, sPlayed, rHours, rDrives, pOff, bGiv, sW_1, sW_21, sW_22, sN_1, sN_21, sN_22, sO_1, sO_21, sO_22, xCnt_sW, xCnt_sN, xCnt_sO]; try rfl)
    | 7, _ => first | rfl | (simp [cellX, arI, arZ, arQ, bNeed, mArr, nP, nB, nW, pHome, wTown, wBand, wDay, wState, tod, pIns, pFee, pSongs, pFeuds, pEarned, wStart, wLen, wSongs, wTold, wSet, wPrice, wPaid, wLate, bShape, sKey, sEnergy, sMin, sPlayed, rHours, rDrives, pOff, bGiv, sW_1, sW_21, sW_22, sN_1, sN_21, sN_22, sO_1, sO_21, sO_22, xCnt_sW, xCnt_sN, xCnt_sO]; try rfl)
    | 8, _ => first | rfl | (simp [cellX, arI, arZ, arQ, bNeed, mArr, nP, nB, nW, pHome, wTown, wBand, wDay, wState, tod, pIns, pFee, pSongs, pFeuds, pEarned, wStart, wLen, wSongs, wTold, wSet, wPrice, wPaid, wLate, bShape, sKey, sEnergy, sMin, sPlayed, rHours, rDrives, pOff, bGiv, sW_1, sW_21, sW_22, sN_1, sN_21, sN_22, sO_1, sO_21, sO_22, xCnt_sW, xCnt_sN, xCnt_sO]; try rfl)
    | 9, _ => first | rfl | (simp [cellX, arI, arZ, arQ, bNeed, mArr, nP, nB, nW, pHome, wTown, wBand, wDay, wState, tod, pIns, pFee, pSongs, pFeuds, pEarned, wStart, wLen, wSongs, wTold, wSet, wPrice, wPaid, wLate, bShape, sKey, sEnergy, sMin, sPlayed, rHours, rDrives, pOff, bGiv, sW_1, sW_21, sW_22, sN_1, sN_21, sN_22, sO_1, sO_21, sO_22, xCnt_sW, xCnt_sN, xCnt_sO]; try rfl)
    | 10, _ => first | rfl | (simp [cellX, arI, arZ, arQ, bNeed, mArr, nP, nB, nW, pHome, wTown, wBand, wDay, wState, tod, pIns, pFee, pSongs, pFeuds, pEarned, wStart, wLen, wSongs, wTold, wSet, wPrice, wPaid, wLate, bShape, sKey, sEnergy, sMin, sPlayed, rHours, rDrives, pOff, bGiv, sW_1, sW_21, sW_22, sN_1, sN_21, sN_22, sO_1, sO_21, sO_22, xCnt_sW, xCnt_sN, xCnt_sO]; try rfl)
    | 11, _ =>
      have e9 : bGiv (sW σ 13 k v) j' = bGiv σ j' := sW_gv (by omega)
      show (if j' < nB σ then some (arI E 6 (bGiv (sW σ 13 k v) j')) else none) = _
      rw [e9]
      rfl
    | n + 12, _ => rfl

set_option maxHeartbeats 4000000 in
theorem RX.Pp14 {D : va_G} {E : Nat → Nat} {α : Nat → Nat → Nat} {F : Nat → Prop} {σ : St} {H H1 : Heap} (h : RX D E α F σ H) {k : Nat} (hk : k < nP σ) {v : Int32} (he : va_at D vwCl (α 3 k, .inr (5, [.int (pIns σ k), .int (nI (pHome σ k)), .int (pFee σ k), .int (pSongs σ k), .int (pFeuds σ k), .int v, .ref (α 4 k)])) H1) (hq : ∀ q, q ≠ α 3 k → H1[q]? = H[q]?) : RX D E α F (sW σ 14 k v) H1 := by
  obtain ⟨h1, h0, γ, h2, h3⟩ := h
  refine ⟨h1, h0, γ, (fun a ha => by rw [xCnt_sW]; exact h2 a ha), h3.put (i := 3) (j := k) (e0 := _) (if_pos hk) he hq (fun i' j' => ?_)⟩
  by_cases hi : i' = 3
  · subst hi
    by_cases hj : j' = k
    · subst hj
      rw [if_pos ⟨rfl, rfl⟩]
      simp [cellX, arI, arZ, mArr, nP, nB, nW, pHome, wTown, wBand, wDay, wState, tod, pIns, pFee, pSongs, pFeuds, pEarned, wStart, wLen, wSongs, wTold, wSet, wPrice, wPaid, wLate, bShape, sKey, sEnergy, sMin, sPlayed, rHours, rDrives, pOff, bGiv, sW_1, sW_21, sW_22, sN_1, sN_21, sN_22, sO_1, sO_21, sO_22, hk]
      try rfl
    · rw [if_neg (fun z => hj z.2)]
      simp [cellX, arI, arZ, mArr, nP, nB, nW, pHome, wTown, wBand, wDay, wState, tod, pIns, pFee, pSongs, pFeuds, pEarned, wStart, wLen, wSongs, wTold, wSet, wPrice, wPaid, wLate, bShape, sKey, sEnergy, sMin, sPlayed, rHours, rDrives, pOff, bGiv, sW_1, sW_21, sW_22, sN_1, sN_21, sN_22, sO_1, sO_21, sO_22, hj]
      try rfl
  · rw [if_neg (fun z => hi z.1)]
    match i', hi with
    | 0, _ => first | rfl | (simp [cellX, arI, arZ, arQ, bNeed, mArr, nP, nB, nW, pHome, wTown, wBand, wDay, wState, tod, pIns, pFee, pSongs, pFeuds, pEarned, wStart, wLen, wSongs, wTold, wSet, wPrice, wPaid, wLate, bShape, sKey, sEnergy, sMin, sPlayed, rHours, rDrives, pOff, bGiv, sW_1, sW_21, sW_22, sN_1, sN_21, sN_22, sO_1, sO_21, sO_22, xCnt_sW, xCnt_sN, xCnt_sO]; try rfl)
    | 1, _ => first | rfl | (simp [cellX, arI, arZ, arQ, bNeed, mArr, nP, nB, nW, pHome, wTown, wBand, wDay, wState, tod, pIns, pFee, pSongs, pFeuds, pEarned, wStart, wLen, wSongs, wTold, wSet, wPrice, wPaid, wLate, bShape, sKey, sEnergy, sMin, sPlayed, rHours, rDrives, pOff, bGiv, sW_1, sW_21, sW_22, sN_1, sN_21, sN_22, sO_1, sO_21, sO_22, xCnt_sW, xCnt_sN, xCnt_sO]; try rfl)
    | 2, _ => first | rfl | (simp [cellX, arI, arZ, arQ, bNeed, mArr, nP, nB, nW, pHome, wTown, wBand, wDay, wState, tod, pIns, pFee, pSongs, pFeuds, pEarned, wStart, wLen, wSongs, wTold, wSet, wPrice, wPaid, wLate, bShape, sKey, sEnergy, sMin, sPlayed, rHours, rDrives, pOff, bGiv, sW_1, sW_21, sW_22, sN_1, sN_21, sN_22, sO_1, sO_21, sO_22, xCnt_sW, xCnt_sN, xCnt_sO]; try rfl)
    | 4, _ => first | rfl | (simp [cellX, arI, arZ, arQ, bNeed, mArr, nP, nB, nW, pHome, wTown, wBand, wDay, wState, tod, pIns, pFee, pSongs, pFeuds, pEarned, wStart, wLen, wSongs, wTold, wSet, wPrice, wPaid, wLate, bShape, sKey, sEnergy, sMin, sPlayed, rHours, rDrives, pOff, bGiv, sW_1, sW_21, sW_22, sN_1, sN_21, sN_22, sO_1, sO_21, sO_22, xCnt_sW, xCnt_sN, xCnt_sO]; try rfl)
    | 5, _ => first | rfl | (simp [cellX, arI, arZ, arQ, bNeed, mArr, nP, nB, nW, pHome, wTown, wBand, wDay, wState, tod, pIns, pFee, pSongs, pFeuds, pEarned, wStart, wLen, wSongs, wTold, wSet, wPrice, wPaid, wLate, bShape, sKey, sEnergy, sMin, sPlayed, rHours, rDrives, pOff, bGiv, sW_1, sW_21, sW_22, sN_1, sN_21, sN_22, sO_1, sO_21, sO_22, xCnt_sW, xCnt_sN, xCnt_sO]; try rfl)
    | 6, _ => first | rfl | (simp [cellX, arI, arZ, arQ, bNeed, mArr, nP, nB, nW, pHome, wTown, wBand, wDay, wState, tod, pIns, pFee, pSongs, pFeuds, pEarned, wStart, wLen, wSongs, wTold, wSet, wPrice, wPaid, wLate, bShape, sKey, sEnergy, sMin, sPlayed, rHours, rDrives, pOff, bGiv, sW_1, sW_21, sW_22, sN_1, sN_21, sN_22, sO_1, sO_21, sO_22, xCnt_sW, xCnt_sN, xCnt_sO]; try rfl)
    | 7, _ => first | rfl | (simp [cellX, arI, arZ, arQ, bNeed, mArr, nP, nB, nW, pHome, wTown, wBand, wDay, wState, tod, pIns, pFee, pSongs, pFeuds, pEarned, wStart, wLen, wSongs, wTold, wSet, wPrice, wPaid, wLate, bShape, sKey, sEnergy, sMin, sPlayed, rHours, rDrives, pOff, bGiv, sW_1, sW_21, sW_22, sN_1, sN_21, sN_22, sO_1, sO_21, sO_22, xCnt_sW, xCnt_sN, xCnt_sO]; try rfl)
    | 8, _ => first | rfl | (simp [cellX, arI, arZ, arQ, bNeed, mArr, nP, nB, nW, pHome, wTown, wBand, wDay, wState, tod, pIns, pFee, pSongs, pFeuds, pEarned, wStart, wLen, wSongs, wTold, wSet, wPrice, wPaid, wLate, bShape, sKey, sEnergy, sMin, sPlayed, rHours, rDrives, pOff, bGiv, sW_1, sW_21, sW_22, sN_1, sN_21, sN_22, sO_1, sO_21, sO_22, xCnt_sW, xCnt_sN, xCnt_sO]; try rfl)
    | 9, _ => first | rfl | (simp [cellX, arI, arZ, arQ, bNeed, mArr, nP, nB, nW, pHome, wTown, wBand, wDay, wState, tod, pIns, pFee, pSongs, pFeuds, pEarned, wStart, wLen, wSongs, wTold, wSet, wPrice, wPaid, wLate, bShape, sKey, sEnergy, sMin, sPlayed, rHours, rDrives, pOff, bGiv, sW_1, sW_21, sW_22, sN_1, sN_21, sN_22, sO_1, sO_21, sO_22, xCnt_sW, xCnt_sN, xCnt_sO]; try rfl)
    | 10, _ => first | rfl | (simp [cellX, arI, arZ, arQ, bNeed, mArr, nP, nB, nW, pHome, wTown, wBand, wDay, wState, tod, pIns, pFee, pSongs, pFeuds, pEarned, wStart, wLen, wSongs, wTold, wSet, wPrice, wPaid, wLate, bShape, sKey, sEnergy, sMin, sPlayed, rHours, rDrives, pOff, bGiv, sW_1, sW_21, sW_22, sN_1, sN_21, sN_22, sO_1, sO_21, sO_22, xCnt_sW, xCnt_sN, xCnt_sO]; try rfl)
    | 11, _ =>
      have e9 : bGiv (sW σ 14 k v) j' = bGiv σ j' := sW_gv (by omega)
      show (if j' < nB σ then some (arI E 6 (bGiv (sW σ 14 k v) j')) else none) = _
      rw [e9]
      rfl
    | n + 12, _ => rfl

set_option maxHeartbeats 4000000 in
theorem RX.Pw24 {D : va_G} {E : Nat → Nat} {α : Nat → Nat → Nat} {F : Nat → Prop} {σ : St} {H H1 : Heap} (h : RX D E α F σ H) {k : Nat} (hk : k < nW σ) {v : Int32} (he : va_at D vwCl (α 5 k, .inr (8, [.int (nI (wBand σ k)), .int (nI (wDay σ k)), .int (nI (wTown σ k)), .int (wStart σ k), .int (wLen σ k), .int (wSongs σ k), .int (wTold σ k), .ref (E (10 + wState σ k)), .int v, .int (wPrice σ k), .int (wPaid σ k), .int (wLate σ k)])) H1) (hq : ∀ q, q ≠ α 5 k → H1[q]? = H[q]?) : RX D E α F (sW σ 24 k v) H1 := by
  obtain ⟨h1, h0, γ, h2, h3⟩ := h
  refine ⟨h1, h0, γ, (fun a ha => by rw [xCnt_sW]; exact h2 a ha), h3.put (i := 5) (j := k) (e0 := _) (if_pos hk) he hq (fun i' j' => ?_)⟩
  by_cases hi : i' = 5
  · subst hi
    by_cases hj : j' = k
    · subst hj
      rw [if_pos ⟨rfl, rfl⟩]
      simp [cellX, arI, arZ, mArr, nP, nB, nW, pHome, wTown, wBand, wDay, wState, tod, pIns, pFee, pSongs, pFeuds, pEarned, wStart, wLen, wSongs, wTold, wSet, wPrice, wPaid, wLate, bShape, sKey, sEnergy, sMin, sPlayed, rHours, rDrives, pOff, bGiv, sW_1, sW_21, sW_22, sN_1, sN_21, sN_22, sO_1, sO_21, sO_22, hk]
      try rfl
    · rw [if_neg (fun z => hj z.2)]
      simp [cellX, arI, arZ, mArr, nP, nB, nW, pHome, wTown, wBand, wDay, wState, tod, pIns, pFee, pSongs, pFeuds, pEarned, wStart, wLen, wSongs, wTold, wSet, wPrice, wPaid, wLate, bShape, sKey, sEnergy, sMin, sPlayed, rHours, rDrives, pOff, bGiv, sW_1, sW_21, sW_22, sN_1, sN_21, sN_22, sO_1, sO_21, sO_22, hj]
      try rfl
  · rw [if_neg (fun z => hi z.1)]
    match i', hi with
    | 0, _ => first | rfl | (simp [cellX, arI, arZ, arQ, bNeed, mArr, nP, nB, nW, pHome, wTown, wBand, wDay, wState, tod, pIns, pFee, pSongs, pFeuds, pEarned, wStart, wLen, wSongs, wTold, wSet, wPrice, wPaid, wLate, bShape, sKey, sEnergy, sMin, sPlayed, rHours, rDrives, pOff, bGiv, sW_1, sW_21, sW_22, sN_1, sN_21, sN_22, sO_1, sO_21, sO_22, xCnt_sW, xCnt_sN, xCnt_sO]; try rfl)
    | 1, _ => first | rfl | (simp [cellX, arI, arZ, arQ, bNeed, mArr, nP, nB, nW, pHome, wTown, wBand, wDay, wState, tod, pIns, pFee, pSongs, pFeuds, pEarned, wStart, wLen, wSongs, wTold, wSet, wPrice, wPaid, wLate, bShape, sKey, sEnergy, sMin, sPlayed, rHours, rDrives, pOff, bGiv, sW_1, sW_21, sW_22, sN_1, sN_21, sN_22, sO_1, sO_21, sO_22, xCnt_sW, xCnt_sN, xCnt_sO]; try rfl)
    | 2, _ => first | rfl | (simp [cellX, arI, arZ, arQ, bNeed, mArr, nP, nB, nW, pHome, wTown, wBand, wDay, wState, tod, pIns, pFee, pSongs, pFeuds, pEarned, wStart, wLen, wSongs, wTold, wSet, wPrice, wPaid, wLate, bShape, sKey, sEnergy, sMin, sPlayed, rHours, rDrives, pOff, bGiv, sW_1, sW_21, sW_22, sN_1, sN_21, sN_22, sO_1, sO_21, sO_22, xCnt_sW, xCnt_sN, xCnt_sO]; try rfl)
    | 3, _ => first | rfl | (simp [cellX, arI, arZ, arQ, bNeed, mArr, nP, nB, nW, pHome, wTown, wBand, wDay, wState, tod, pIns, pFee, pSongs, pFeuds, pEarned, wStart, wLen, wSongs, wTold, wSet, wPrice, wPaid, wLate, bShape, sKey, sEnergy, sMin, sPlayed, rHours, rDrives, pOff, bGiv, sW_1, sW_21, sW_22, sN_1, sN_21, sN_22, sO_1, sO_21, sO_22, xCnt_sW, xCnt_sN, xCnt_sO]; try rfl)
    | 4, _ => first | rfl | (simp [cellX, arI, arZ, arQ, bNeed, mArr, nP, nB, nW, pHome, wTown, wBand, wDay, wState, tod, pIns, pFee, pSongs, pFeuds, pEarned, wStart, wLen, wSongs, wTold, wSet, wPrice, wPaid, wLate, bShape, sKey, sEnergy, sMin, sPlayed, rHours, rDrives, pOff, bGiv, sW_1, sW_21, sW_22, sN_1, sN_21, sN_22, sO_1, sO_21, sO_22, xCnt_sW, xCnt_sN, xCnt_sO]; try rfl)
    | 6, _ => first | rfl | (simp [cellX, arI, arZ, arQ, bNeed, mArr, nP, nB, nW, pHome, wTown, wBand, wDay, wState, tod, pIns, pFee, pSongs, pFeuds, pEarned, wStart, wLen, wSongs, wTold, wSet, wPrice, wPaid, wLate, bShape, sKey, sEnergy, sMin, sPlayed, rHours, rDrives, pOff, bGiv, sW_1, sW_21, sW_22, sN_1, sN_21, sN_22, sO_1, sO_21, sO_22, xCnt_sW, xCnt_sN, xCnt_sO]; try rfl)
    | 7, _ => first | rfl | (simp [cellX, arI, arZ, arQ, bNeed, mArr, nP, nB, nW, pHome, wTown, wBand, wDay, wState, tod, pIns, pFee, pSongs, pFeuds, pEarned, wStart, wLen, wSongs, wTold, wSet, wPrice, wPaid, wLate, bShape, sKey, sEnergy, sMin, sPlayed, rHours, rDrives, pOff, bGiv, sW_1, sW_21, sW_22, sN_1, sN_21, sN_22, sO_1, sO_21, sO_22, xCnt_sW, xCnt_sN, xCnt_sO]; try rfl)
    | 8, _ => first | rfl | (simp [cellX, arI, arZ, arQ, bNeed, mArr, nP, nB, nW, pHome, wTown, wBand, wDay, wState, tod, pIns, pFee, pSongs, pFeuds, pEarned, wStart, wLen, wSongs, wTold, wSet, wPrice, wPaid, wLate, bShape, sKey, sEnergy, sMin, sPlayed, rHours, rDrives, pOff, bGiv, sW_1, sW_21, sW_22, sN_1, sN_21, sN_22, sO_1, sO_21, sO_22, xCnt_sW, xCnt_sN, xCnt_sO]; try rfl)
    | 9, _ => first | rfl | (simp [cellX, arI, arZ, arQ, bNeed, mArr, nP, nB, nW, pHome, wTown, wBand, wDay, wState, tod, pIns, pFee, pSongs, pFeuds, pEarned, wStart, wLen, wSongs, wTold, wSet, wPrice, wPaid, wLate, bShape, sKey, sEnergy, sMin, sPlayed, rHours, rDrives, pOff, bGiv, sW_1, sW_21, sW_22, sN_1, sN_21, sN_22, sO_1, sO_21, sO_22, xCnt_sW, xCnt_sN, xCnt_sO]; try rfl)
    | 10, _ => first | rfl | (simp [cellX, arI, arZ, arQ, bNeed, mArr, nP, nB, nW, pHome, wTown, wBand, wDay, wState, tod, pIns, pFee, pSongs, pFeuds, pEarned, wStart, wLen, wSongs, wTold, wSet, wPrice, wPaid, wLate, bShape, sKey, sEnergy, sMin, sPlayed, rHours, rDrives, pOff, bGiv, sW_1, sW_21, sW_22, sN_1, sN_21, sN_22, sO_1, sO_21, sO_22, xCnt_sW, xCnt_sN, xCnt_sO]; try rfl)
    | 11, _ =>
      have e9 : bGiv (sW σ 24 k v) j' = bGiv σ j' := sW_gv (by omega)
      show (if j' < nB σ then some (arI E 6 (bGiv (sW σ 24 k v) j')) else none) = _
      rw [e9]
      rfl
    | n + 12, _ => rfl

set_option maxHeartbeats 4000000 in
theorem RX.Pw25 {D : va_G} {E : Nat → Nat} {α : Nat → Nat → Nat} {F : Nat → Prop} {σ : St} {H H1 : Heap} (h : RX D E α F σ H) {k : Nat} (hk : k < nW σ) {v : Int32} (he : va_at D vwCl (α 5 k, .inr (8, [.int (nI (wBand σ k)), .int (nI (wDay σ k)), .int (nI (wTown σ k)), .int (wStart σ k), .int (wLen σ k), .int (wSongs σ k), .int (wTold σ k), .ref (E (10 + wState σ k)), .int (wSet σ k), .int v, .int (wPaid σ k), .int (wLate σ k)])) H1) (hq : ∀ q, q ≠ α 5 k → H1[q]? = H[q]?) : RX D E α F (sW σ 25 k v) H1 := by
  obtain ⟨h1, h0, γ, h2, h3⟩ := h
  refine ⟨h1, h0, γ, (fun a ha => by rw [xCnt_sW]; exact h2 a ha), h3.put (i := 5) (j := k) (e0 := _) (if_pos hk) he hq (fun i' j' => ?_)⟩
  by_cases hi : i' = 5
  · subst hi
    by_cases hj : j' = k
    · subst hj
      rw [if_pos ⟨rfl, rfl⟩]
      simp [cellX, arI, arZ, mArr, nP, nB, nW, pHome, wTown, wBand, wDay, wState, tod, pIns, pFee, pSongs, pFeuds, pEarned, wStart, wLen, wSongs, wTold, wSet, wPrice, wPaid, wLate, bShape, sKey, sEnergy, sMin, sPlayed, rHours, rDrives, pOff, bGiv, sW_1, sW_21, sW_22, sN_1, sN_21, sN_22, sO_1, sO_21, sO_22, hk]
      try rfl
    · rw [if_neg (fun z => hj z.2)]
      simp [cellX, arI, arZ, mArr, nP, nB, nW, pHome, wTown, wBand, wDay, wState, tod, pIns, pFee, pSongs, pFeuds, pEarned, wStart, wLen, wSongs, wTold, wSet, wPrice, wPaid, wLate, bShape, sKey, sEnergy, sMin, sPlayed, rHours, rDrives, pOff, bGiv, sW_1, sW_21, sW_22, sN_1, sN_21, sN_22, sO_1, sO_21, sO_22, hj]
      try rfl
  · rw [if_neg (fun z => hi z.1)]
    match i', hi with
    | 0, _ => first | rfl | (simp [cellX, arI, arZ, arQ, bNeed, mArr, nP, nB, nW, pHome, wTown, wBand, wDay, wState, tod, pIns, pFee, pSongs, pFeuds, pEarned, wStart, wLen, wSongs, wTold, wSet, wPrice, wPaid, wLate, bShape, sKey, sEnergy, sMin, sPlayed, rHours, rDrives, pOff, bGiv, sW_1, sW_21, sW_22, sN_1, sN_21, sN_22, sO_1, sO_21, sO_22, xCnt_sW, xCnt_sN, xCnt_sO]; try rfl)
    | 1, _ => first | rfl | (simp [cellX, arI, arZ, arQ, bNeed, mArr, nP, nB, nW, pHome, wTown, wBand, wDay, wState, tod, pIns, pFee, pSongs, pFeuds, pEarned, wStart, wLen, wSongs, wTold, wSet, wPrice, wPaid, wLate, bShape, sKey, sEnergy, sMin, sPlayed, rHours, rDrives, pOff, bGiv, sW_1, sW_21, sW_22, sN_1, sN_21, sN_22, sO_1, sO_21, sO_22, xCnt_sW, xCnt_sN, xCnt_sO]; try rfl)
    | 2, _ => first | rfl | (simp [cellX, arI, arZ, arQ, bNeed, mArr, nP, nB, nW, pHome, wTown, wBand, wDay, wState, tod, pIns, pFee, pSongs, pFeuds, pEarned, wStart, wLen, wSongs, wTold, wSet, wPrice, wPaid, wLate, bShape, sKey, sEnergy, sMin, sPlayed, rHours, rDrives, pOff, bGiv, sW_1, sW_21, sW_22, sN_1, sN_21, sN_22, sO_1, sO_21, sO_22, xCnt_sW, xCnt_sN, xCnt_sO]; try rfl)
    | 3, _ => first | rfl | (simp [cellX, arI, arZ, arQ, bNeed, mArr, nP, nB, nW, pHome, wTown, wBand, wDay, wState, tod, pIns, pFee, pSongs, pFeuds, pEarned, wStart, wLen, wSongs, wTold, wSet, wPrice, wPaid, wLate, bShape, sKey, sEnergy, sMin, sPlayed, rHours, rDrives, pOff, bGiv, sW_1, sW_21, sW_22, sN_1, sN_21, sN_22, sO_1, sO_21, sO_22, xCnt_sW, xCnt_sN, xCnt_sO]; try rfl)
    | 4, _ => first | rfl | (simp [cellX, arI, arZ, arQ, bNeed, mArr, nP, nB, nW, pHome, wTown, wBand, wDay, wState, tod, pIns, pFee, pSongs, pFeuds, pEarned, wStart, wLen, wSongs, wTold, wSet, wPrice, wPaid, wLate, bShape, sKey, sEnergy, sMin, sPlayed, rHours, rDrives, pOff, bGiv, sW_1, sW_21, sW_22, sN_1, sN_21, sN_22, sO_1, sO_21, sO_22, xCnt_sW, xCnt_sN, xCnt_sO]; try rfl)
    | 6, _ => first | rfl | (simp [cellX, arI, arZ, arQ, bNeed, mArr, nP, nB, nW, pHome, wTown, wBand, wDay, wState, tod, pIns, pFee, pSongs, pFeuds, pEarned, wStart, wLen, wSongs, wTold, wSet, wPrice, wPaid, wLate, bShape, sKey, sEnergy, sMin, sPlayed, rHours, rDrives, pOff, bGiv, sW_1, sW_21, sW_22, sN_1, sN_21, sN_22, sO_1, sO_21, sO_22, xCnt_sW, xCnt_sN, xCnt_sO]; try rfl)
    | 7, _ => first | rfl | (simp [cellX, arI, arZ, arQ, bNeed, mArr, nP, nB, nW, pHome, wTown, wBand, wDay, wState, tod, pIns, pFee, pSongs, pFeuds, pEarned, wStart, wLen, wSongs, wTold, wSet, wPrice, wPaid, wLate, bShape, sKey, sEnergy, sMin, sPlayed, rHours, rDrives, pOff, bGiv, sW_1, sW_21, sW_22, sN_1, sN_21, sN_22, sO_1, sO_21, sO_22, xCnt_sW, xCnt_sN, xCnt_sO]; try rfl)
    | 8, _ => first | rfl | (simp [cellX, arI, arZ, arQ, bNeed, mArr, nP, nB, nW, pHome, wTown, wBand, wDay, wState, tod, pIns, pFee, pSongs, pFeuds, pEarned, wStart, wLen, wSongs, wTold, wSet, wPrice, wPaid, wLate, bShape, sKey, sEnergy, sMin, sPlayed, rHours, rDrives, pOff, bGiv, sW_1, sW_21, sW_22, sN_1, sN_21, sN_22, sO_1, sO_21, sO_22, xCnt_sW, xCnt_sN, xCnt_sO]; try rfl)
    | 9, _ => first | rfl | (simp [cellX, arI, arZ, arQ, bNeed, mArr, nP, nB, nW, pHome, wTown, wBand, wDay, wState, tod, pIns, pFee, pSongs, pFeuds, pEarned, wStart, wLen, wSongs, wTold, wSet, wPrice, wPaid, wLate, bShape, sKey, sEnergy, sMin, sPlayed, rHours, rDrives, pOff, bGiv, sW_1, sW_21, sW_22, sN_1, sN_21, sN_22, sO_1, sO_21, sO_22, xCnt_sW, xCnt_sN, xCnt_sO]; try rfl)
    | 10, _ => first | rfl | (simp [cellX, arI, arZ, arQ, bNeed, mArr, nP, nB, nW, pHome, wTown, wBand, wDay, wState, tod, pIns, pFee, pSongs, pFeuds, pEarned, wStart, wLen, wSongs, wTold, wSet, wPrice, wPaid, wLate, bShape, sKey, sEnergy, sMin, sPlayed, rHours, rDrives, pOff, bGiv, sW_1, sW_21, sW_22, sN_1, sN_21, sN_22, sO_1, sO_21, sO_22, xCnt_sW, xCnt_sN, xCnt_sO]; try rfl)
    | 11, _ =>
      have e9 : bGiv (sW σ 25 k v) j' = bGiv σ j' := sW_gv (by omega)
      show (if j' < nB σ then some (arI E 6 (bGiv (sW σ 25 k v) j')) else none) = _
      rw [e9]
      rfl
    | n + 12, _ => rfl

set_option maxHeartbeats 4000000 in
theorem RX.Pw26 {D : va_G} {E : Nat → Nat} {α : Nat → Nat → Nat} {F : Nat → Prop} {σ : St} {H H1 : Heap} (h : RX D E α F σ H) {k : Nat} (hk : k < nW σ) {v : Int32} (he : va_at D vwCl (α 5 k, .inr (8, [.int (nI (wBand σ k)), .int (nI (wDay σ k)), .int (nI (wTown σ k)), .int (wStart σ k), .int (wLen σ k), .int (wSongs σ k), .int (wTold σ k), .ref (E (10 + wState σ k)), .int (wSet σ k), .int (wPrice σ k), .int v, .int (wLate σ k)])) H1) (hq : ∀ q, q ≠ α 5 k → H1[q]? = H[q]?) : RX D E α F (sW σ 26 k v) H1 := by
  obtain ⟨h1, h0, γ, h2, h3⟩ := h
  refine ⟨h1, h0, γ, (fun a ha => by rw [xCnt_sW]; exact h2 a ha), h3.put (i := 5) (j := k) (e0 := _) (if_pos hk) he hq (fun i' j' => ?_)⟩
  by_cases hi : i' = 5
  · subst hi
    by_cases hj : j' = k
    · subst hj
      rw [if_pos ⟨rfl, rfl⟩]
      simp [cellX, arI, arZ, mArr, nP, nB, nW, pHome, wTown, wBand, wDay, wState, tod, pIns, pFee, pSongs, pFeuds, pEarned, wStart, wLen, wSongs, wTold, wSet, wPrice, wPaid, wLate, bShape, sKey, sEnergy, sMin, sPlayed, rHours, rDrives, pOff, bGiv, sW_1, sW_21, sW_22, sN_1, sN_21, sN_22, sO_1, sO_21, sO_22, hk]
      try rfl
    · rw [if_neg (fun z => hj z.2)]
      simp [cellX, arI, arZ, mArr, nP, nB, nW, pHome, wTown, wBand, wDay, wState, tod, pIns, pFee, pSongs, pFeuds, pEarned, wStart, wLen, wSongs, wTold, wSet, wPrice, wPaid, wLate, bShape, sKey, sEnergy, sMin, sPlayed, rHours, rDrives, pOff, bGiv, sW_1, sW_21, sW_22, sN_1, sN_21, sN_22, sO_1, sO_21, sO_22, hj]
      try rfl
  · rw [if_neg (fun z => hi z.1)]
    match i', hi with
    | 0, _ => first | rfl | (simp [cellX, arI, arZ, arQ, bNeed, mArr, nP, nB, nW, pHome, wTown, wBand, wDay, wState, tod, pIns, pFee, pSongs, pFeuds, pEarned, wStart, wLen, wSongs, wTold, wSet, wPrice, wPaid, wLate, bShape, sKey, sEnergy, sMin, sPlayed, rHours, rDrives, pOff, bGiv, sW_1, sW_21, sW_22, sN_1, sN_21, sN_22, sO_1, sO_21, sO_22, xCnt_sW, xCnt_sN, xCnt_sO]; try rfl)
    | 1, _ => first | rfl | (simp [cellX, arI, arZ, arQ, bNeed, mArr, nP, nB, nW, pHome, wTown, wBand, wDay, wState, tod, pIns, pFee, pSongs, pFeuds, pEarned, wStart, wLen, wSongs, wTold, wSet, wPrice, wPaid, wLate, bShape, sKey, sEnergy, sMin, sPlayed, rHours, rDrives, pOff, bGiv, sW_1, sW_21, sW_22, sN_1, sN_21, sN_22, sO_1, sO_21, sO_22, xCnt_sW, xCnt_sN, xCnt_sO]; try rfl)
    | 2, _ => first | rfl | (simp [cellX, arI, arZ, arQ, bNeed, mArr, nP, nB, nW, pHome, wTown, wBand, wDay, wState, tod, pIns, pFee, pSongs, pFeuds, pEarned, wStart, wLen, wSongs, wTold, wSet, wPrice, wPaid, wLate, bShape, sKey, sEnergy, sMin, sPlayed, rHours, rDrives, pOff, bGiv, sW_1, sW_21, sW_22, sN_1, sN_21, sN_22, sO_1, sO_21, sO_22, xCnt_sW, xCnt_sN, xCnt_sO]; try rfl)
    | 3, _ => first | rfl | (simp [cellX, arI, arZ, arQ, bNeed, mArr, nP, nB, nW, pHome, wTown, wBand, wDay, wState, tod, pIns, pFee, pSongs, pFeuds, pEarned, wStart, wLen, wSongs, wTold, wSet, wPrice, wPaid, wLate, bShape, sKey, sEnergy, sMin, sPlayed, rHours, rDrives, pOff, bGiv, sW_1, sW_21, sW_22, sN_1, sN_21, sN_22, sO_1, sO_21, sO_22, xCnt_sW, xCnt_sN, xCnt_sO]; try rfl)
    | 4, _ => first | rfl | (simp [cellX, arI, arZ, arQ, bNeed, mArr, nP, nB, nW, pHome, wTown, wBand, wDay, wState, tod, pIns, pFee, pSongs, pFeuds, pEarned, wStart, wLen, wSongs, wTold, wSet, wPrice, wPaid, wLate, bShape, sKey, sEnergy, sMin, sPlayed, rHours, rDrives, pOff, bGiv, sW_1, sW_21, sW_22, sN_1, sN_21, sN_22, sO_1, sO_21, sO_22, xCnt_sW, xCnt_sN, xCnt_sO]; try rfl)
    | 6, _ => first | rfl | (simp [cellX, arI, arZ, arQ, bNeed, mArr, nP, nB, nW, pHome, wTown, wBand, wDay, wState, tod, pIns, pFee, pSongs, pFeuds, pEarned, wStart, wLen, wSongs, wTold, wSet, wPrice, wPaid, wLate, bShape, sKey, sEnergy, sMin, sPlayed, rHours, rDrives, pOff, bGiv, sW_1, sW_21, sW_22, sN_1, sN_21, sN_22, sO_1, sO_21, sO_22, xCnt_sW, xCnt_sN, xCnt_sO]; try rfl)
    | 7, _ => first | rfl | (simp [cellX, arI, arZ, arQ, bNeed, mArr, nP, nB, nW, pHome, wTown, wBand, wDay, wState, tod, pIns, pFee, pSongs, pFeuds, pEarned, wStart, wLen, wSongs, wTold, wSet, wPrice, wPaid, wLate, bShape, sKey, sEnergy, sMin, sPlayed, rHours, rDrives, pOff, bGiv, sW_1, sW_21, sW_22, sN_1, sN_21, sN_22, sO_1, sO_21, sO_22, xCnt_sW, xCnt_sN, xCnt_sO]; try rfl)
    | 8, _ => first | rfl | (simp [cellX, arI, arZ, arQ, bNeed, mArr, nP, nB, nW, pHome, wTown, wBand, wDay, wState, tod, pIns, pFee, pSongs, pFeuds, pEarned, wStart, wLen, wSongs, wTold, wSet, wPrice, wPaid, wLate, bShape, sKey, sEnergy, sMin, sPlayed, rHours, rDrives, pOff, bGiv, sW_1, sW_21, sW_22, sN_1, sN_21, sN_22, sO_1, sO_21, sO_22, xCnt_sW, xCnt_sN, xCnt_sO]; try rfl)
    | 9, _ => first | rfl | (simp [cellX, arI, arZ, arQ, bNeed, mArr, nP, nB, nW, pHome, wTown, wBand, wDay, wState, tod, pIns, pFee, pSongs, pFeuds, pEarned, wStart, wLen, wSongs, wTold, wSet, wPrice, wPaid, wLate, bShape, sKey, sEnergy, sMin, sPlayed, rHours, rDrives, pOff, bGiv, sW_1, sW_21, sW_22, sN_1, sN_21, sN_22, sO_1, sO_21, sO_22, xCnt_sW, xCnt_sN, xCnt_sO]; try rfl)
    | 10, _ => first | rfl | (simp [cellX, arI, arZ, arQ, bNeed, mArr, nP, nB, nW, pHome, wTown, wBand, wDay, wState, tod, pIns, pFee, pSongs, pFeuds, pEarned, wStart, wLen, wSongs, wTold, wSet, wPrice, wPaid, wLate, bShape, sKey, sEnergy, sMin, sPlayed, rHours, rDrives, pOff, bGiv, sW_1, sW_21, sW_22, sN_1, sN_21, sN_22, sO_1, sO_21, sO_22, xCnt_sW, xCnt_sN, xCnt_sO]; try rfl)
    | 11, _ =>
      have e9 : bGiv (sW σ 26 k v) j' = bGiv σ j' := sW_gv (by omega)
      show (if j' < nB σ then some (arI E 6 (bGiv (sW σ 26 k v) j')) else none) = _
      rw [e9]
      rfl
    | n + 12, _ => rfl

set_option maxHeartbeats 4000000 in
theorem RX.Pw27 {D : va_G} {E : Nat → Nat} {α : Nat → Nat → Nat} {F : Nat → Prop} {σ : St} {H H1 : Heap} (h : RX D E α F σ H) {k : Nat} (hk : k < nW σ) {v : Int32} (he : va_at D vwCl (α 5 k, .inr (8, [.int (nI (wBand σ k)), .int (nI (wDay σ k)), .int (nI (wTown σ k)), .int (wStart σ k), .int (wLen σ k), .int (wSongs σ k), .int (wTold σ k), .ref (E (10 + wState σ k)), .int (wSet σ k), .int (wPrice σ k), .int (wPaid σ k), .int v])) H1) (hq : ∀ q, q ≠ α 5 k → H1[q]? = H[q]?) : RX D E α F (sW σ 27 k v) H1 := by
  obtain ⟨h1, h0, γ, h2, h3⟩ := h
  refine ⟨h1, h0, γ, (fun a ha => by rw [xCnt_sW]; exact h2 a ha), h3.put (i := 5) (j := k) (e0 := _) (if_pos hk) he hq (fun i' j' => ?_)⟩
  by_cases hi : i' = 5
  · subst hi
    by_cases hj : j' = k
    · subst hj
      rw [if_pos ⟨rfl, rfl⟩]
      simp [cellX, arI, arZ, mArr, nP, nB, nW, pHome, wTown, wBand, wDay, wState, tod, pIns, pFee, pSongs, pFeuds, pEarned, wStart, wLen, wSongs, wTold, wSet, wPrice, wPaid, wLate, bShape, sKey, sEnergy, sMin, sPlayed, rHours, rDrives, pOff, bGiv, sW_1, sW_21, sW_22, sN_1, sN_21, sN_22, sO_1, sO_21, sO_22, hk]
      try rfl
    · rw [if_neg (fun z => hj z.2)]
      simp [cellX, arI, arZ, mArr, nP, nB, nW, pHome, wTown, wBand, wDay, wState, tod, pIns, pFee, pSongs, pFeuds, pEarned, wStart, wLen, wSongs, wTold, wSet, wPrice, wPaid, wLate, bShape, sKey, sEnergy, sMin, sPlayed, rHours, rDrives, pOff, bGiv, sW_1, sW_21, sW_22, sN_1, sN_21, sN_22, sO_1, sO_21, sO_22, hj]
      try rfl
  · rw [if_neg (fun z => hi z.1)]
    match i', hi with
    | 0, _ => first | rfl | (simp [cellX, arI, arZ, arQ, bNeed, mArr, nP, nB, nW, pHome, wTown, wBand, wDay, wState, tod, pIns, pFee, pSongs, pFeuds, pEarned, wStart, wLen, wSongs, wTold, wSet, wPrice, wPaid, wLate, bShape, sKey, sEnergy, sMin, sPlayed, rHours, rDrives, pOff, bGiv, sW_1, sW_21, sW_22, sN_1, sN_21, sN_22, sO_1, sO_21, sO_22, xCnt_sW, xCnt_sN, xCnt_sO]; try rfl)
    | 1, _ => first | rfl | (simp [cellX, arI, arZ, arQ, bNeed, mArr, nP, nB, nW, pHome, wTown, wBand, wDay, wState, tod, pIns, pFee, pSongs, pFeuds, pEarned, wStart, wLen, wSongs, wTold, wSet, wPrice, wPaid, wLate, bShape, sKey, sEnergy, sMin, sPlayed, rHours, rDrives, pOff, bGiv, sW_1, sW_21, sW_22, sN_1, sN_21, sN_22, sO_1, sO_21, sO_22, xCnt_sW, xCnt_sN, xCnt_sO]; try rfl)
    | 2, _ => first | rfl | (simp [cellX, arI, arZ, arQ, bNeed, mArr, nP, nB, nW, pHome, wTown, wBand, wDay, wState, tod, pIns, pFee, pSongs, pFeuds, pEarned, wStart, wLen, wSongs, wTold, wSet, wPrice, wPaid, wLate, bShape, sKey, sEnergy, sMin, sPlayed, rHours, rDrives, pOff, bGiv, sW_1, sW_21, sW_22, sN_1, sN_21, sN_22, sO_1, sO_21, sO_22, xCnt_sW, xCnt_sN, xCnt_sO]; try rfl)
    | 3, _ => first | rfl | (simp [cellX, arI, arZ, arQ, bNeed, mArr, nP, nB, nW, pHome, wTown, wBand, wDay, wState, tod, pIns, pFee, pSongs, pFeuds, pEarned, wStart, wLen, wSongs, wTold, wSet, wPrice, wPaid, wLate, bShape, sKey, sEnergy, sMin, sPlayed, rHours, rDrives, pOff, bGiv, sW_1, sW_21, sW_22, sN_1, sN_21, sN_22, sO_1, sO_21, sO_22, xCnt_sW, xCnt_sN, xCnt_sO]; try rfl)
    | 4, _ => first | rfl | (simp [cellX, arI, arZ, arQ, bNeed, mArr, nP, nB, nW, pHome, wTown, wBand, wDay, wState, tod, pIns, pFee, pSongs, pFeuds, pEarned, wStart, wLen, wSongs, wTold, wSet, wPrice, wPaid, wLate, bShape, sKey, sEnergy, sMin, sPlayed, rHours, rDrives, pOff, bGiv, sW_1, sW_21, sW_22, sN_1, sN_21, sN_22, sO_1, sO_21, sO_22, xCnt_sW, xCnt_sN, xCnt_sO]; try rfl)
    | 6, _ => first | rfl | (simp [cellX, arI, arZ, arQ, bNeed, mArr, nP, nB, nW, pHome, wTown, wBand, wDay, wState, tod, pIns, pFee, pSongs, pFeuds, pEarned, wStart, wLen, wSongs, wTold, wSet, wPrice, wPaid, wLate, bShape, sKey, sEnergy, sMin, sPlayed, rHours, rDrives, pOff, bGiv, sW_1, sW_21, sW_22, sN_1, sN_21, sN_22, sO_1, sO_21, sO_22, xCnt_sW, xCnt_sN, xCnt_sO]; try rfl)
    | 7, _ => first | rfl | (simp [cellX, arI, arZ, arQ, bNeed, mArr, nP, nB, nW, pHome, wTown, wBand, wDay, wState, tod, pIns, pFee, pSongs, pFeuds, pEarned, wStart, wLen, wSongs, wTold, wSet, wPrice, wPaid, wLate, bShape, sKey, sEnergy, sMin, sPlayed, rHours, rDrives, pOff, bGiv, sW_1, sW_21, sW_22, sN_1, sN_21, sN_22, sO_1, sO_21, sO_22, xCnt_sW, xCnt_sN, xCnt_sO]; try rfl)
    | 8, _ => first | rfl | (simp [cellX, arI, arZ, arQ, bNeed, mArr, nP, nB, nW, pHome, wTown, wBand, wDay, wState, tod, pIns, pFee, pSongs, pFeuds, pEarned, wStart, wLen, wSongs, wTold, wSet, wPrice, wPaid, wLate, bShape, sKey, sEnergy, sMin, sPlayed, rHours, rDrives, pOff, bGiv, sW_1, sW_21, sW_22, sN_1, sN_21, sN_22, sO_1, sO_21, sO_22, xCnt_sW, xCnt_sN, xCnt_sO]; try rfl)
    | 9, _ => first | rfl | (simp [cellX, arI, arZ, arQ, bNeed, mArr, nP, nB, nW, pHome, wTown, wBand, wDay, wState, tod, pIns, pFee, pSongs, pFeuds, pEarned, wStart, wLen, wSongs, wTold, wSet, wPrice, wPaid, wLate, bShape, sKey, sEnergy, sMin, sPlayed, rHours, rDrives, pOff, bGiv, sW_1, sW_21, sW_22, sN_1, sN_21, sN_22, sO_1, sO_21, sO_22, xCnt_sW, xCnt_sN, xCnt_sO]; try rfl)
    | 10, _ => first | rfl | (simp [cellX, arI, arZ, arQ, bNeed, mArr, nP, nB, nW, pHome, wTown, wBand, wDay, wState, tod, pIns, pFee, pSongs, pFeuds, pEarned, wStart, wLen, wSongs, wTold, wSet, wPrice, wPaid, wLate, bShape, sKey, sEnergy, sMin, sPlayed, rHours, rDrives, pOff, bGiv, sW_1, sW_21, sW_22, sN_1, sN_21, sN_22, sO_1, sO_21, sO_22, xCnt_sW, xCnt_sN, xCnt_sO]; try rfl)
    | 11, _ =>
      have e9 : bGiv (sW σ 27 k v) j' = bGiv σ j' := sW_gv (by omega)
      show (if j' < nB σ then some (arI E 6 (bGiv (sW σ 27 k v) j')) else none) = _
      rw [e9]
      rfl
    | n + 12, _ => rfl

set_option maxHeartbeats 4000000 in
theorem RX.Pwst {D : va_G} {E : Nat → Nat} {α : Nat → Nat → Nat} {F : Nat → Prop} {σ : St} {H H1 : Heap} (h : RX D E α F σ H) {k : Nat} (hk : k < nW σ) {v : Nat} (hv : v < 4) (he : va_at D vwCl (α 5 k, .inr (8, [.int (nI (wBand σ k)), .int (nI (wDay σ k)), .int (nI (wTown σ k)), .int (wStart σ k), .int (wLen σ k), .int (wSongs σ k), .int (wTold σ k), .ref (E (10 + v)), .int (wSet σ k), .int (wPrice σ k), .int (wPaid σ k), .int (wLate σ k)])) H1) (hq : ∀ q, q ≠ α 5 k → H1[q]? = H[q]?) : RX D E α F (sN σ 5 k v) H1 := by
  obtain ⟨h1, h0, γ, h2, h3⟩ := h
  refine ⟨h1.sN5 hv, h0, γ, (fun a ha => by rw [xCnt_sN]; exact h2 a ha), h3.put (i := 5) (j := k) (e0 := _) (if_pos hk) he hq (fun i' j' => ?_)⟩
  by_cases hi : i' = 5
  · subst hi
    by_cases hj : j' = k
    · subst hj
      rw [if_pos ⟨rfl, rfl⟩]
      simp [cellX, arI, arZ, mArr, nP, nB, nW, pHome, wTown, wBand, wDay, wState, tod, pIns, pFee, pSongs, pFeuds, pEarned, wStart, wLen, wSongs, wTold, wSet, wPrice, wPaid, wLate, bShape, sKey, sEnergy, sMin, sPlayed, rHours, rDrives, pOff, bGiv, sW_1, sW_21, sW_22, sN_1, sN_21, sN_22, sO_1, sO_21, sO_22, hk]
      try rfl
    · rw [if_neg (fun z => hj z.2)]
      simp [cellX, arI, arZ, mArr, nP, nB, nW, pHome, wTown, wBand, wDay, wState, tod, pIns, pFee, pSongs, pFeuds, pEarned, wStart, wLen, wSongs, wTold, wSet, wPrice, wPaid, wLate, bShape, sKey, sEnergy, sMin, sPlayed, rHours, rDrives, pOff, bGiv, sW_1, sW_21, sW_22, sN_1, sN_21, sN_22, sO_1, sO_21, sO_22, hj]
      try rfl
  · rw [if_neg (fun z => hi z.1)]
    match i', hi with
    | 0, _ => first | rfl | (simp [cellX, arI, arZ, arQ, bNeed, mArr, nP, nB, nW, pHome, wTown, wBand, wDay, wState, tod, pIns, pFee, pSongs, pFeuds, pEarned, wStart, wLen, wSongs, wTold, wSet, wPrice, wPaid, wLate, bShape, sKey, sEnergy, sMin, sPlayed, rHours, rDrives, pOff, bGiv, sW_1, sW_21, sW_22, sN_1, sN_21, sN_22, sO_1, sO_21, sO_22, xCnt_sW, xCnt_sN, xCnt_sO]; try rfl)
    | 1, _ => first | rfl | (simp [cellX, arI, arZ, arQ, bNeed, mArr, nP, nB, nW, pHome, wTown, wBand, wDay, wState, tod, pIns, pFee, pSongs, pFeuds, pEarned, wStart, wLen, wSongs, wTold, wSet, wPrice, wPaid, wLate, bShape, sKey, sEnergy, sMin, sPlayed, rHours, rDrives, pOff, bGiv, sW_1, sW_21, sW_22, sN_1, sN_21, sN_22, sO_1, sO_21, sO_22, xCnt_sW, xCnt_sN, xCnt_sO]; try rfl)
    | 2, _ => first | rfl | (simp [cellX, arI, arZ, arQ, bNeed, mArr, nP, nB, nW, pHome, wTown, wBand, wDay, wState, tod, pIns, pFee, pSongs, pFeuds, pEarned, wStart, wLen, wSongs, wTold, wSet, wPrice, wPaid, wLate, bShape, sKey, sEnergy, sMin, sPlayed, rHours, rDrives, pOff, bGiv, sW_1, sW_21, sW_22, sN_1, sN_21, sN_22, sO_1, sO_21, sO_22, xCnt_sW, xCnt_sN, xCnt_sO]; try rfl)
    | 3, _ => first | rfl | (simp [cellX, arI, arZ, arQ, bNeed, mArr, nP, nB, nW, pHome, wTown, wBand, wDay, wState, tod, pIns, pFee, pSongs, pFeuds, pEarned, wStart, wLen, wSongs, wTold, wSet, wPrice, wPaid, wLate, bShape, sKey, sEnergy, sMin, sPlayed, rHours, rDrives, pOff, bGiv, sW_1, sW_21, sW_22, sN_1, sN_21, sN_22, sO_1, sO_21, sO_22, xCnt_sW, xCnt_sN, xCnt_sO]; try rfl)
    | 4, _ => first | rfl | (simp [cellX, arI, arZ, arQ, bNeed, mArr, nP, nB, nW, pHome, wTown, wBand, wDay, wState, tod, pIns, pFee, pSongs, pFeuds, pEarned, wStart, wLen, wSongs, wTold, wSet, wPrice, wPaid, wLate, bShape, sKey, sEnergy, sMin, sPlayed, rHours, rDrives, pOff, bGiv, sW_1, sW_21, sW_22, sN_1, sN_21, sN_22, sO_1, sO_21, sO_22, xCnt_sW, xCnt_sN, xCnt_sO]; try rfl)
    | 6, _ => first | rfl | (simp [cellX, arI, arZ, arQ, bNeed, mArr, nP, nB, nW, pHome, wTown, wBand, wDay, wState, tod, pIns, pFee, pSongs, pFeuds, pEarned, wStart, wLen, wSongs, wTold, wSet, wPrice, wPaid, wLate, bShape, sKey, sEnergy, sMin, sPlayed, rHours, rDrives, pOff, bGiv, sW_1, sW_21, sW_22, sN_1, sN_21, sN_22, sO_1, sO_21, sO_22, xCnt_sW, xCnt_sN, xCnt_sO]; try rfl)
    | 7, _ => first | rfl | (simp [cellX, arI, arZ, arQ, bNeed, mArr, nP, nB, nW, pHome, wTown, wBand, wDay, wState, tod, pIns, pFee, pSongs, pFeuds, pEarned, wStart, wLen, wSongs, wTold, wSet, wPrice, wPaid, wLate, bShape, sKey, sEnergy, sMin, sPlayed, rHours, rDrives, pOff, bGiv, sW_1, sW_21, sW_22, sN_1, sN_21, sN_22, sO_1, sO_21, sO_22, xCnt_sW, xCnt_sN, xCnt_sO]; try rfl)
    | 8, _ => first | rfl | (simp [cellX, arI, arZ, arQ, bNeed, mArr, nP, nB, nW, pHome, wTown, wBand, wDay, wState, tod, pIns, pFee, pSongs, pFeuds, pEarned, wStart, wLen, wSongs, wTold, wSet, wPrice, wPaid, wLate, bShape, sKey, sEnergy, sMin, sPlayed, rHours, rDrives, pOff, bGiv, sW_1, sW_21, sW_22, sN_1, sN_21, sN_22, sO_1, sO_21, sO_22, xCnt_sW, xCnt_sN, xCnt_sO]; try rfl)
    | 9, _ => first | rfl | (simp [cellX, arI, arZ, arQ, bNeed, mArr, nP, nB, nW, pHome, wTown, wBand, wDay, wState, tod, pIns, pFee, pSongs, pFeuds, pEarned, wStart, wLen, wSongs, wTold, wSet, wPrice, wPaid, wLate, bShape, sKey, sEnergy, sMin, sPlayed, rHours, rDrives, pOff, bGiv, sW_1, sW_21, sW_22, sN_1, sN_21, sN_22, sO_1, sO_21, sO_22, xCnt_sW, xCnt_sN, xCnt_sO]; try rfl)
    | 10, _ => first | rfl | (simp [cellX, arI, arZ, arQ, bNeed, mArr, nP, nB, nW, pHome, wTown, wBand, wDay, wState, tod, pIns, pFee, pSongs, pFeuds, pEarned, wStart, wLen, wSongs, wTold, wSet, wPrice, wPaid, wLate, bShape, sKey, sEnergy, sMin, sPlayed, rHours, rDrives, pOff, bGiv, sW_1, sW_21, sW_22, sN_1, sN_21, sN_22, sO_1, sO_21, sO_22, xCnt_sW, xCnt_sN, xCnt_sO]; try rfl)
    | 11, _ => first | rfl | (simp [cellX, arI, arZ, arQ, bNeed, mArr, nP, nB, nW, pHome, wTown, wBand, wDay, wState, tod, pIns, pFee, pSongs, pFeuds, pEarned, wStart, wLen, wSongs, wTold, wSet, wPrice, wPaid, wLate, bShape, sKey, sEnergy, sMin, sPlayed, rHours, rDrives, pOff, bGiv, sW_1, sW_21, sW_22, sN_1, sN_21, sN_22, sO_1, sO_21, sO_22, xCnt_sW, xCnt_sN, xCnt_sO]; try rfl)
    | n + 12, _ => rfl

set_option maxHeartbeats 4000000 in
theorem RX.Ptod {D : va_G} {E : Nat → Nat} {α : Nat → Nat → Nat} {F : Nat → Prop} {σ : St} {H H1 : Heap} (h : RX D E α F σ H) {v : Int32} (he : va_at D vwCl (α 0 0, .inr (0, [.ref (α 1 0), .ref (α 1 1), .ref (α 7 0), .ref (α 1 2), .ref (α 1 3), .int v])) H1) (hq : ∀ q, q ≠ α 0 0 → H1[q]? = H[q]?) : RX D E α F (sW σ 0 0 v) H1 := by
  obtain ⟨h1, h0, γ, h2, h3⟩ := h
  refine ⟨h1, h0, γ, (fun a ha => by rw [xCnt_sW]; exact h2 a ha), h3.put (i := 0) (j := 0) (e0 := _) rfl he hq (fun i' j' => ?_)⟩
  by_cases hi : i' = 0
  · subst hi
    by_cases hj : j' = 0
    · subst hj
      rw [if_pos ⟨rfl, rfl⟩]
      simp [cellX, arI, arZ, mArr, nP, nB, nW, pHome, wTown, wBand, wDay, wState, tod, pIns, pFee, pSongs, pFeuds, pEarned, wStart, wLen, wSongs, wTold, wSet, wPrice, wPaid, wLate, bShape, sKey, sEnergy, sMin, sPlayed, rHours, rDrives, pOff, bGiv, sW_1, sW_21, sW_22, sN_1, sN_21, sN_22, sO_1, sO_21, sO_22, ]
      try rfl
    · rw [if_neg (fun z => hj z.2)]
      simp [cellX, arI, arZ, mArr, nP, nB, nW, pHome, wTown, wBand, wDay, wState, tod, pIns, pFee, pSongs, pFeuds, pEarned, wStart, wLen, wSongs, wTold, wSet, wPrice, wPaid, wLate, bShape, sKey, sEnergy, sMin, sPlayed, rHours, rDrives, pOff, bGiv, sW_1, sW_21, sW_22, sN_1, sN_21, sN_22, sO_1, sO_21, sO_22, hj]
      try rfl
  · rw [if_neg (fun z => hi z.1)]
    match i', hi with
    | 1, _ => first | rfl | (simp [cellX, arI, arZ, arQ, bNeed, mArr, nP, nB, nW, pHome, wTown, wBand, wDay, wState, tod, pIns, pFee, pSongs, pFeuds, pEarned, wStart, wLen, wSongs, wTold, wSet, wPrice, wPaid, wLate, bShape, sKey, sEnergy, sMin, sPlayed, rHours, rDrives, pOff, bGiv, sW_1, sW_21, sW_22, sN_1, sN_21, sN_22, sO_1, sO_21, sO_22, xCnt_sW, xCnt_sN, xCnt_sO]; try rfl)
    | 2, _ => first | rfl | (simp [cellX, arI, arZ, arQ, bNeed, mArr, nP, nB, nW, pHome, wTown, wBand, wDay, wState, tod, pIns, pFee, pSongs, pFeuds, pEarned, wStart, wLen, wSongs, wTold, wSet, wPrice, wPaid, wLate, bShape, sKey, sEnergy, sMin, sPlayed, rHours, rDrives, pOff, bGiv, sW_1, sW_21, sW_22, sN_1, sN_21, sN_22, sO_1, sO_21, sO_22, xCnt_sW, xCnt_sN, xCnt_sO]; try rfl)
    | 3, _ => first | rfl | (simp [cellX, arI, arZ, arQ, bNeed, mArr, nP, nB, nW, pHome, wTown, wBand, wDay, wState, tod, pIns, pFee, pSongs, pFeuds, pEarned, wStart, wLen, wSongs, wTold, wSet, wPrice, wPaid, wLate, bShape, sKey, sEnergy, sMin, sPlayed, rHours, rDrives, pOff, bGiv, sW_1, sW_21, sW_22, sN_1, sN_21, sN_22, sO_1, sO_21, sO_22, xCnt_sW, xCnt_sN, xCnt_sO]; try rfl)
    | 4, _ => first | rfl | (simp [cellX, arI, arZ, arQ, bNeed, mArr, nP, nB, nW, pHome, wTown, wBand, wDay, wState, tod, pIns, pFee, pSongs, pFeuds, pEarned, wStart, wLen, wSongs, wTold, wSet, wPrice, wPaid, wLate, bShape, sKey, sEnergy, sMin, sPlayed, rHours, rDrives, pOff, bGiv, sW_1, sW_21, sW_22, sN_1, sN_21, sN_22, sO_1, sO_21, sO_22, xCnt_sW, xCnt_sN, xCnt_sO]; try rfl)
    | 5, _ => first | rfl | (simp [cellX, arI, arZ, arQ, bNeed, mArr, nP, nB, nW, pHome, wTown, wBand, wDay, wState, tod, pIns, pFee, pSongs, pFeuds, pEarned, wStart, wLen, wSongs, wTold, wSet, wPrice, wPaid, wLate, bShape, sKey, sEnergy, sMin, sPlayed, rHours, rDrives, pOff, bGiv, sW_1, sW_21, sW_22, sN_1, sN_21, sN_22, sO_1, sO_21, sO_22, xCnt_sW, xCnt_sN, xCnt_sO]; try rfl)
    | 6, _ => first | rfl | (simp [cellX, arI, arZ, arQ, bNeed, mArr, nP, nB, nW, pHome, wTown, wBand, wDay, wState, tod, pIns, pFee, pSongs, pFeuds, pEarned, wStart, wLen, wSongs, wTold, wSet, wPrice, wPaid, wLate, bShape, sKey, sEnergy, sMin, sPlayed, rHours, rDrives, pOff, bGiv, sW_1, sW_21, sW_22, sN_1, sN_21, sN_22, sO_1, sO_21, sO_22, xCnt_sW, xCnt_sN, xCnt_sO]; try rfl)
    | 7, _ => first | rfl | (simp [cellX, arI, arZ, arQ, bNeed, mArr, nP, nB, nW, pHome, wTown, wBand, wDay, wState, tod, pIns, pFee, pSongs, pFeuds, pEarned, wStart, wLen, wSongs, wTold, wSet, wPrice, wPaid, wLate, bShape, sKey, sEnergy, sMin, sPlayed, rHours, rDrives, pOff, bGiv, sW_1, sW_21, sW_22, sN_1, sN_21, sN_22, sO_1, sO_21, sO_22, xCnt_sW, xCnt_sN, xCnt_sO]; try rfl)
    | 8, _ => first | rfl | (simp [cellX, arI, arZ, arQ, bNeed, mArr, nP, nB, nW, pHome, wTown, wBand, wDay, wState, tod, pIns, pFee, pSongs, pFeuds, pEarned, wStart, wLen, wSongs, wTold, wSet, wPrice, wPaid, wLate, bShape, sKey, sEnergy, sMin, sPlayed, rHours, rDrives, pOff, bGiv, sW_1, sW_21, sW_22, sN_1, sN_21, sN_22, sO_1, sO_21, sO_22, xCnt_sW, xCnt_sN, xCnt_sO]; try rfl)
    | 9, _ => first | rfl | (simp [cellX, arI, arZ, arQ, bNeed, mArr, nP, nB, nW, pHome, wTown, wBand, wDay, wState, tod, pIns, pFee, pSongs, pFeuds, pEarned, wStart, wLen, wSongs, wTold, wSet, wPrice, wPaid, wLate, bShape, sKey, sEnergy, sMin, sPlayed, rHours, rDrives, pOff, bGiv, sW_1, sW_21, sW_22, sN_1, sN_21, sN_22, sO_1, sO_21, sO_22, xCnt_sW, xCnt_sN, xCnt_sO]; try rfl)
    | 10, _ => first | rfl | (simp [cellX, arI, arZ, arQ, bNeed, mArr, nP, nB, nW, pHome, wTown, wBand, wDay, wState, tod, pIns, pFee, pSongs, pFeuds, pEarned, wStart, wLen, wSongs, wTold, wSet, wPrice, wPaid, wLate, bShape, sKey, sEnergy, sMin, sPlayed, rHours, rDrives, pOff, bGiv, sW_1, sW_21, sW_22, sN_1, sN_21, sN_22, sO_1, sO_21, sO_22, xCnt_sW, xCnt_sN, xCnt_sO]; try rfl)
    | 11, _ =>
      have e9 : bGiv (sW σ 0 0 v) j' = bGiv σ j' := sW_gv (by omega)
      show (if j' < nB σ then some (arI E 6 (bGiv (sW σ 0 0 v) j')) else none) = _
      rw [e9]
      rfl
    | n + 12, _ => rfl

set_option maxHeartbeats 4000000 in
theorem RX.Pof {D : va_G} {E : Nat → Nat} {α : Nat → Nat → Nat} {F : Nat → Prop} {σ : St} {H H1 : Heap} (h : RX D E α F σ H) {k : Nat} (hk : k < nP σ) {d : Nat} {v : Int32} (he : va_at D vwCl (α 4 k, .inl (E 2, 366, .inl (upd (pOff σ k) d v))) H1) (hq : ∀ q, q ≠ α 4 k → H1[q]? = H[q]?) : RX D E α F (sO σ k d v) H1 := by
  obtain ⟨h1, h0, γ, h2, h3⟩ := h
  refine ⟨h1, h0, γ, (fun a ha => by rw [xCnt_sO]; exact h2 a ha), h3.put (i := 4) (j := k) (e0 := _) (if_pos hk) he hq (fun i' j' => ?_)⟩
  by_cases hi : i' = 4
  · subst hi
    by_cases hj : j' = k
    · subst hj
      rw [if_pos ⟨rfl, rfl⟩]
      simp [cellX, arI, arZ, mArr, nP, nB, nW, pHome, wTown, wBand, wDay, wState, tod, pIns, pFee, pSongs, pFeuds, pEarned, wStart, wLen, wSongs, wTold, wSet, wPrice, wPaid, wLate, bShape, sKey, sEnergy, sMin, sPlayed, rHours, rDrives, pOff, bGiv, sW_1, sW_21, sW_22, sN_1, sN_21, sN_22, sO_1, sO_21, sO_22, hk]
      funext b; simp [upd, nP, nB, nW, pHome, wTown, wBand, wDay, wState, tod, pIns, pFee, pSongs, pFeuds, pEarned, wStart, wLen, wSongs, wTold, wSet, wPrice, wPaid, wLate, bShape, sKey, sEnergy, sMin, sPlayed, rHours, rDrives, pOff, bGiv, sW_1, sW_21, sW_22, sN_1, sN_21, sN_22, sO_1, sO_21, sO_22]
    · rw [if_neg (fun z => hj z.2)]
      have e9 : pOff (sO σ k d v) j' = pOff σ j' := by funext b; simp [pOff, sO_22, hj]
      simp [cellX, arI, arZ, mArr, nP, nB, nW, pHome, wTown, wBand, wDay, wState, tod, pIns, pFee, pSongs, pFeuds, pEarned, wStart, wLen, wSongs, wTold, wSet, wPrice, wPaid, wLate, bShape, sKey, sEnergy, sMin, sPlayed, rHours, rDrives, pOff, bGiv, sW_1, sW_21, sW_22, sN_1, sN_21, sN_22, sO_1, sO_21, sO_22, hj, e9]
      try rfl
  · rw [if_neg (fun z => hi z.1)]
    match i', hi with
    | 0, _ => first | rfl | (simp [cellX, arI, arZ, arQ, bNeed, mArr, nP, nB, nW, pHome, wTown, wBand, wDay, wState, tod, pIns, pFee, pSongs, pFeuds, pEarned, wStart, wLen, wSongs, wTold, wSet, wPrice, wPaid, wLate, bShape, sKey, sEnergy, sMin, sPlayed, rHours, rDrives, pOff, bGiv, sW_1, sW_21, sW_22, sN_1, sN_21, sN_22, sO_1, sO_21, sO_22, xCnt_sW, xCnt_sN, xCnt_sO]; try rfl)
    | 1, _ => first | rfl | (simp [cellX, arI, arZ, arQ, bNeed, mArr, nP, nB, nW, pHome, wTown, wBand, wDay, wState, tod, pIns, pFee, pSongs, pFeuds, pEarned, wStart, wLen, wSongs, wTold, wSet, wPrice, wPaid, wLate, bShape, sKey, sEnergy, sMin, sPlayed, rHours, rDrives, pOff, bGiv, sW_1, sW_21, sW_22, sN_1, sN_21, sN_22, sO_1, sO_21, sO_22, xCnt_sW, xCnt_sN, xCnt_sO]; try rfl)
    | 2, _ => first | rfl | (simp [cellX, arI, arZ, arQ, bNeed, mArr, nP, nB, nW, pHome, wTown, wBand, wDay, wState, tod, pIns, pFee, pSongs, pFeuds, pEarned, wStart, wLen, wSongs, wTold, wSet, wPrice, wPaid, wLate, bShape, sKey, sEnergy, sMin, sPlayed, rHours, rDrives, pOff, bGiv, sW_1, sW_21, sW_22, sN_1, sN_21, sN_22, sO_1, sO_21, sO_22, xCnt_sW, xCnt_sN, xCnt_sO]; try rfl)
    | 3, _ => first | rfl | (simp [cellX, arI, arZ, arQ, bNeed, mArr, nP, nB, nW, pHome, wTown, wBand, wDay, wState, tod, pIns, pFee, pSongs, pFeuds, pEarned, wStart, wLen, wSongs, wTold, wSet, wPrice, wPaid, wLate, bShape, sKey, sEnergy, sMin, sPlayed, rHours, rDrives, pOff, bGiv, sW_1, sW_21, sW_22, sN_1, sN_21, sN_22, sO_1, sO_21, sO_22, xCnt_sW, xCnt_sN, xCnt_sO]; try rfl)
    | 5, _ => first | rfl | (simp [cellX, arI, arZ, arQ, bNeed, mArr, nP, nB, nW, pHome, wTown, wBand, wDay, wState, tod, pIns, pFee, pSongs, pFeuds, pEarned, wStart, wLen, wSongs, wTold, wSet, wPrice, wPaid, wLate, bShape, sKey, sEnergy, sMin, sPlayed, rHours, rDrives, pOff, bGiv, sW_1, sW_21, sW_22, sN_1, sN_21, sN_22, sO_1, sO_21, sO_22, xCnt_sW, xCnt_sN, xCnt_sO]; try rfl)
    | 6, _ => first | rfl | (simp [cellX, arI, arZ, arQ, bNeed, mArr, nP, nB, nW, pHome, wTown, wBand, wDay, wState, tod, pIns, pFee, pSongs, pFeuds, pEarned, wStart, wLen, wSongs, wTold, wSet, wPrice, wPaid, wLate, bShape, sKey, sEnergy, sMin, sPlayed, rHours, rDrives, pOff, bGiv, sW_1, sW_21, sW_22, sN_1, sN_21, sN_22, sO_1, sO_21, sO_22, xCnt_sW, xCnt_sN, xCnt_sO]; try rfl)
    | 7, _ => first | rfl | (simp [cellX, arI, arZ, arQ, bNeed, mArr, nP, nB, nW, pHome, wTown, wBand, wDay, wState, tod, pIns, pFee, pSongs, pFeuds, pEarned, wStart, wLen, wSongs, wTold, wSet, wPrice, wPaid, wLate, bShape, sKey, sEnergy, sMin, sPlayed, rHours, rDrives, pOff, bGiv, sW_1, sW_21, sW_22, sN_1, sN_21, sN_22, sO_1, sO_21, sO_22, xCnt_sW, xCnt_sN, xCnt_sO]; try rfl)
    | 8, _ => first | rfl | (simp [cellX, arI, arZ, arQ, bNeed, mArr, nP, nB, nW, pHome, wTown, wBand, wDay, wState, tod, pIns, pFee, pSongs, pFeuds, pEarned, wStart, wLen, wSongs, wTold, wSet, wPrice, wPaid, wLate, bShape, sKey, sEnergy, sMin, sPlayed, rHours, rDrives, pOff, bGiv, sW_1, sW_21, sW_22, sN_1, sN_21, sN_22, sO_1, sO_21, sO_22, xCnt_sW, xCnt_sN, xCnt_sO]; try rfl)
    | 9, _ => first | rfl | (simp [cellX, arI, arZ, arQ, bNeed, mArr, nP, nB, nW, pHome, wTown, wBand, wDay, wState, tod, pIns, pFee, pSongs, pFeuds, pEarned, wStart, wLen, wSongs, wTold, wSet, wPrice, wPaid, wLate, bShape, sKey, sEnergy, sMin, sPlayed, rHours, rDrives, pOff, bGiv, sW_1, sW_21, sW_22, sN_1, sN_21, sN_22, sO_1, sO_21, sO_22, xCnt_sW, xCnt_sN, xCnt_sO]; try rfl)
    | 10, _ => first | rfl | (simp [cellX, arI, arZ, arQ, bNeed, mArr, nP, nB, nW, pHome, wTown, wBand, wDay, wState, tod, pIns, pFee, pSongs, pFeuds, pEarned, wStart, wLen, wSongs, wTold, wSet, wPrice, wPaid, wLate, bShape, sKey, sEnergy, sMin, sPlayed, rHours, rDrives, pOff, bGiv, sW_1, sW_21, sW_22, sN_1, sN_21, sN_22, sO_1, sO_21, sO_22, xCnt_sW, xCnt_sN, xCnt_sO]; try rfl)
    | 11, _ => first | rfl | (simp [cellX, arI, arZ, arQ, bNeed, mArr, nP, nB, nW, pHome, wTown, wBand, wDay, wState, tod, pIns, pFee, pSongs, pFeuds, pEarned, wStart, wLen, wSongs, wTold, wSet, wPrice, wPaid, wLate, bShape, sKey, sEnergy, sMin, sPlayed, rHours, rDrives, pOff, bGiv, sW_1, sW_21, sW_22, sN_1, sN_21, sN_22, sO_1, sO_21, sO_22, xCnt_sW, xCnt_sN, xCnt_sO]; try rfl)
    | n + 12, _ => rfl

set_option maxHeartbeats 4000000 in
theorem RX.Pgv {D : va_G} {E : Nat → Nat} {α : Nat → Nat → Nat} {F : Nat → Prop} {σ : St} {H H1 : Heap} (h : RX D E α F σ H) {k : Nat} (hk : k < nB σ) {d : Nat} {v : Int32} (he : va_at D vwCl (α 11 k, .inl (E 1, 6, .inl (upd (bGiv σ k) d v))) H1) (hq : ∀ q, q ≠ α 11 k → H1[q]? = H[q]?) : RX D E α F (sW σ (1000 + k) d v) H1 := by
  obtain ⟨h1, h0, γ, h2, h3⟩ := h
  refine ⟨h1, h0, γ, (fun a ha => by rw [xCnt_sW]; exact h2 a ha), h3.put (i := 11) (j := k) (e0 := _) (if_pos hk) he hq (fun i' j' => ?_)⟩
  by_cases hi : i' = 11
  · subst hi
    by_cases hj : j' = k
    · subst hj
      rw [if_pos ⟨rfl, rfl⟩]
      simp [cellX, arI, arZ, mArr, nP, nB, nW, pHome, wTown, wBand, wDay, wState, tod, pIns, pFee, pSongs, pFeuds, pEarned, wStart, wLen, wSongs, wTold, wSet, wPrice, wPaid, wLate, bShape, sKey, sEnergy, sMin, sPlayed, rHours, rDrives, pOff, bGiv, sW_1, sW_21, sW_22, sN_1, sN_21, sN_22, sO_1, sO_21, sO_22, hk]
      funext b; simp [upd, bGiv, sW_1, sW_21, sW_22]
    · rw [if_neg (fun z => hj z.2)]
      have e9 : bGiv (sW σ (1000 + k) d v) j' = bGiv σ j' := sW_gv (by omega)
      simp [cellX, arI, arZ, mArr, nP, nB, nW, pHome, wTown, wBand, wDay, wState, tod, pIns, pFee, pSongs, pFeuds, pEarned, wStart, wLen, wSongs, wTold, wSet, wPrice, wPaid, wLate, bShape, sKey, sEnergy, sMin, sPlayed, rHours, rDrives, pOff, bGiv, sW_1, sW_21, sW_22, sN_1, sN_21, sN_22, sO_1, sO_21, sO_22, hj, e9]
      try rfl
  · rw [if_neg (fun z => hi z.1)]
    match i', hi with
    | 0, _ => first | rfl | (simp [cellX, arI, arZ, arQ, bNeed, mArr, nP, nB, nW, pHome, wTown, wBand, wDay, wState, tod, pIns, pFee, pSongs, pFeuds, pEarned, wStart, wLen, wSongs, wTold, wSet, wPrice, wPaid, wLate, bShape, sKey, sEnergy, sMin, sPlayed, rHours, rDrives, pOff, bGiv, lt1000, sW_1, sW_21, sW_22, sN_1, sN_21, sN_22, sO_1, sO_21, sO_22, xCnt_sW, xCnt_sN, xCnt_sO]; try rfl)
    | 1, _ => first | rfl | (simp [cellX, arI, arZ, arQ, bNeed, mArr, nP, nB, nW, pHome, wTown, wBand, wDay, wState, tod, pIns, pFee, pSongs, pFeuds, pEarned, wStart, wLen, wSongs, wTold, wSet, wPrice, wPaid, wLate, bShape, sKey, sEnergy, sMin, sPlayed, rHours, rDrives, pOff, bGiv, lt1000, sW_1, sW_21, sW_22, sN_1, sN_21, sN_22, sO_1, sO_21, sO_22, xCnt_sW, xCnt_sN, xCnt_sO]; try rfl)
    | 2, _ => first | rfl | (simp [cellX, arI, arZ, arQ, bNeed, mArr, nP, nB, nW, pHome, wTown, wBand, wDay, wState, tod, pIns, pFee, pSongs, pFeuds, pEarned, wStart, wLen, wSongs, wTold, wSet, wPrice, wPaid, wLate, bShape, sKey, sEnergy, sMin, sPlayed, rHours, rDrives, pOff, bGiv, lt1000, sW_1, sW_21, sW_22, sN_1, sN_21, sN_22, sO_1, sO_21, sO_22, xCnt_sW, xCnt_sN, xCnt_sO]; try rfl)
    | 3, _ => first | rfl | (simp [cellX, arI, arZ, arQ, bNeed, mArr, nP, nB, nW, pHome, wTown, wBand, wDay, wState, tod, pIns, pFee, pSongs, pFeuds, pEarned, wStart, wLen, wSongs, wTold, wSet, wPrice, wPaid, wLate, bShape, sKey, sEnergy, sMin, sPlayed, rHours, rDrives, pOff, bGiv, lt1000, sW_1, sW_21, sW_22, sN_1, sN_21, sN_22, sO_1, sO_21, sO_22, xCnt_sW, xCnt_sN, xCnt_sO]; try rfl)
    | 4, _ => first | rfl | (simp [cellX, arI, arZ, arQ, bNeed, mArr, nP, nB, nW, pHome, wTown, wBand, wDay, wState, tod, pIns, pFee, pSongs, pFeuds, pEarned, wStart, wLen, wSongs, wTold, wSet, wPrice, wPaid, wLate, bShape, sKey, sEnergy, sMin, sPlayed, rHours, rDrives, pOff, bGiv, lt1000, sW_1, sW_21, sW_22, sN_1, sN_21, sN_22, sO_1, sO_21, sO_22, xCnt_sW, xCnt_sN, xCnt_sO]; try rfl)
    | 5, _ => first | rfl | (simp [cellX, arI, arZ, arQ, bNeed, mArr, nP, nB, nW, pHome, wTown, wBand, wDay, wState, tod, pIns, pFee, pSongs, pFeuds, pEarned, wStart, wLen, wSongs, wTold, wSet, wPrice, wPaid, wLate, bShape, sKey, sEnergy, sMin, sPlayed, rHours, rDrives, pOff, bGiv, lt1000, sW_1, sW_21, sW_22, sN_1, sN_21, sN_22, sO_1, sO_21, sO_22, xCnt_sW, xCnt_sN, xCnt_sO]; try rfl)
    | 6, _ => first | rfl | (simp [cellX, arI, arZ, arQ, bNeed, mArr, nP, nB, nW, pHome, wTown, wBand, wDay, wState, tod, pIns, pFee, pSongs, pFeuds, pEarned, wStart, wLen, wSongs, wTold, wSet, wPrice, wPaid, wLate, bShape, sKey, sEnergy, sMin, sPlayed, rHours, rDrives, pOff, bGiv, lt1000, sW_1, sW_21, sW_22, sN_1, sN_21, sN_22, sO_1, sO_21, sO_22, xCnt_sW, xCnt_sN, xCnt_sO]; try rfl)
    | 7, _ => first | rfl | (simp [cellX, arI, arZ, arQ, bNeed, mArr, nP, nB, nW, pHome, wTown, wBand, wDay, wState, tod, pIns, pFee, pSongs, pFeuds, pEarned, wStart, wLen, wSongs, wTold, wSet, wPrice, wPaid, wLate, bShape, sKey, sEnergy, sMin, sPlayed, rHours, rDrives, pOff, bGiv, lt1000, sW_1, sW_21, sW_22, sN_1, sN_21, sN_22, sO_1, sO_21, sO_22, xCnt_sW, xCnt_sN, xCnt_sO]; try rfl)
    | 8, _ =>
      have e1 : rHours (sW σ (1000 + k) d v) = rHours σ := sW_row (by omega)
      have e2 : rDrives (sW σ (1000 + k) d v) = rDrives σ := sW_row (by omega)
      show (if j' = 0 then some (arI E 36 (rHours (sW σ (1000 + k) d v))) else if j' = 1 then some (arI E 36 (rDrives (sW σ (1000 + k) d v))) else none) = _
      rw [e1, e2]
      rfl
    | 9, _ => first | rfl | (simp [cellX, arI, arZ, arQ, bNeed, mArr, nP, nB, nW, pHome, wTown, wBand, wDay, wState, tod, pIns, pFee, pSongs, pFeuds, pEarned, wStart, wLen, wSongs, wTold, wSet, wPrice, wPaid, wLate, bShape, sKey, sEnergy, sMin, sPlayed, rHours, rDrives, pOff, bGiv, lt1000, sW_1, sW_21, sW_22, sN_1, sN_21, sN_22, sO_1, sO_21, sO_22, xCnt_sW, xCnt_sN, xCnt_sO]; try rfl)
    | 10, _ =>
      have e1 : bShape (sW σ (1000 + k) d v) j' = bShape σ j' := if_neg (fun z => absurd z.1 (by omega))
      have e2 : bNeed (sW σ (1000 + k) d v) j' = bNeed σ j' := funext fun x => congrArg (fun z => shNeed z x) e1
      show (if j' < nB σ then some (arI E 6 (bNeed (sW σ (1000 + k) d v) j')) else none) = _
      rw [e2]
      rfl
    | n + 12, _ => rfl

set_option maxHeartbeats 4000000 in
theorem RX.Phr {D : va_G} {E : Nat → Nat} {α : Nat → Nat → Nat} {F : Nat → Prop} {σ : St} {H H1 : Heap} (h : RX D E α F σ H) {d : Nat} {v : Int32} (he : va_at D vwCl (α 8 0, .inl (E 1, 36, .inl (upd (rHours σ) d v))) H1) (hq : ∀ q, q ≠ α 8 0 → H1[q]? = H[q]?) : RX D E α F (sW σ 40 d v) H1 := by
  obtain ⟨h1, h0, γ, h2, h3⟩ := h
  refine ⟨h1, h0, γ, (fun a ha => by rw [xCnt_sW]; exact h2 a ha), h3.put (i := 8) (j := 0) (e0 := _) rfl he hq (fun i' j' => ?_)⟩
  by_cases hi : i' = 8
  · subst hi
    by_cases hj : j' = 0
    · subst hj
      rw [if_pos ⟨rfl, rfl⟩]
      simp [cellX, arI, arZ, mArr, nP, nB, nW, pHome, wTown, wBand, wDay, wState, tod, pIns, pFee, pSongs, pFeuds, pEarned, wStart, wLen, wSongs, wTold, wSet, wPrice, wPaid, wLate, bShape, sKey, sEnergy, sMin, sPlayed, rHours, rDrives, pOff, bGiv, sW_1, sW_21, sW_22, sN_1, sN_21, sN_22, sO_1, sO_21, sO_22, ]
      funext b; simp [upd, nP, nB, nW, pHome, wTown, wBand, wDay, wState, tod, pIns, pFee, pSongs, pFeuds, pEarned, wStart, wLen, wSongs, wTold, wSet, wPrice, wPaid, wLate, bShape, sKey, sEnergy, sMin, sPlayed, rHours, rDrives, pOff, bGiv, sW_1, sW_21, sW_22, sN_1, sN_21, sN_22, sO_1, sO_21, sO_22]
    · rw [if_neg (fun z => hj z.2)]
      simp [cellX, arI, arZ, mArr, nP, nB, nW, pHome, wTown, wBand, wDay, wState, tod, pIns, pFee, pSongs, pFeuds, pEarned, wStart, wLen, wSongs, wTold, wSet, wPrice, wPaid, wLate, bShape, sKey, sEnergy, sMin, sPlayed, rHours, rDrives, pOff, bGiv, sW_1, sW_21, sW_22, sN_1, sN_21, sN_22, sO_1, sO_21, sO_22, hj]
      try rfl
  · rw [if_neg (fun z => hi z.1)]
    match i', hi with
    | 0, _ => first | rfl | (simp [cellX, arI, arZ, arQ, bNeed, mArr, nP, nB, nW, pHome, wTown, wBand, wDay, wState, tod, pIns, pFee, pSongs, pFeuds, pEarned, wStart, wLen, wSongs, wTold, wSet, wPrice, wPaid, wLate, bShape, sKey, sEnergy, sMin, sPlayed, rHours, rDrives, pOff, bGiv, sW_1, sW_21, sW_22, sN_1, sN_21, sN_22, sO_1, sO_21, sO_22, xCnt_sW, xCnt_sN, xCnt_sO]; try rfl)
    | 1, _ => first | rfl | (simp [cellX, arI, arZ, arQ, bNeed, mArr, nP, nB, nW, pHome, wTown, wBand, wDay, wState, tod, pIns, pFee, pSongs, pFeuds, pEarned, wStart, wLen, wSongs, wTold, wSet, wPrice, wPaid, wLate, bShape, sKey, sEnergy, sMin, sPlayed, rHours, rDrives, pOff, bGiv, sW_1, sW_21, sW_22, sN_1, sN_21, sN_22, sO_1, sO_21, sO_22, xCnt_sW, xCnt_sN, xCnt_sO]; try rfl)
    | 2, _ => first | rfl | (simp [cellX, arI, arZ, arQ, bNeed, mArr, nP, nB, nW, pHome, wTown, wBand, wDay, wState, tod, pIns, pFee, pSongs, pFeuds, pEarned, wStart, wLen, wSongs, wTold, wSet, wPrice, wPaid, wLate, bShape, sKey, sEnergy, sMin, sPlayed, rHours, rDrives, pOff, bGiv, sW_1, sW_21, sW_22, sN_1, sN_21, sN_22, sO_1, sO_21, sO_22, xCnt_sW, xCnt_sN, xCnt_sO]; try rfl)
    | 3, _ => first | rfl | (simp [cellX, arI, arZ, arQ, bNeed, mArr, nP, nB, nW, pHome, wTown, wBand, wDay, wState, tod, pIns, pFee, pSongs, pFeuds, pEarned, wStart, wLen, wSongs, wTold, wSet, wPrice, wPaid, wLate, bShape, sKey, sEnergy, sMin, sPlayed, rHours, rDrives, pOff, bGiv, sW_1, sW_21, sW_22, sN_1, sN_21, sN_22, sO_1, sO_21, sO_22, xCnt_sW, xCnt_sN, xCnt_sO]; try rfl)
    | 4, _ => first | rfl | (simp [cellX, arI, arZ, arQ, bNeed, mArr, nP, nB, nW, pHome, wTown, wBand, wDay, wState, tod, pIns, pFee, pSongs, pFeuds, pEarned, wStart, wLen, wSongs, wTold, wSet, wPrice, wPaid, wLate, bShape, sKey, sEnergy, sMin, sPlayed, rHours, rDrives, pOff, bGiv, sW_1, sW_21, sW_22, sN_1, sN_21, sN_22, sO_1, sO_21, sO_22, xCnt_sW, xCnt_sN, xCnt_sO]; try rfl)
    | 5, _ => first | rfl | (simp [cellX, arI, arZ, arQ, bNeed, mArr, nP, nB, nW, pHome, wTown, wBand, wDay, wState, tod, pIns, pFee, pSongs, pFeuds, pEarned, wStart, wLen, wSongs, wTold, wSet, wPrice, wPaid, wLate, bShape, sKey, sEnergy, sMin, sPlayed, rHours, rDrives, pOff, bGiv, sW_1, sW_21, sW_22, sN_1, sN_21, sN_22, sO_1, sO_21, sO_22, xCnt_sW, xCnt_sN, xCnt_sO]; try rfl)
    | 6, _ => first | rfl | (simp [cellX, arI, arZ, arQ, bNeed, mArr, nP, nB, nW, pHome, wTown, wBand, wDay, wState, tod, pIns, pFee, pSongs, pFeuds, pEarned, wStart, wLen, wSongs, wTold, wSet, wPrice, wPaid, wLate, bShape, sKey, sEnergy, sMin, sPlayed, rHours, rDrives, pOff, bGiv, sW_1, sW_21, sW_22, sN_1, sN_21, sN_22, sO_1, sO_21, sO_22, xCnt_sW, xCnt_sN, xCnt_sO]; try rfl)
    | 7, _ => first | rfl | (simp [cellX, arI, arZ, arQ, bNeed, mArr, nP, nB, nW, pHome, wTown, wBand, wDay, wState, tod, pIns, pFee, pSongs, pFeuds, pEarned, wStart, wLen, wSongs, wTold, wSet, wPrice, wPaid, wLate, bShape, sKey, sEnergy, sMin, sPlayed, rHours, rDrives, pOff, bGiv, sW_1, sW_21, sW_22, sN_1, sN_21, sN_22, sO_1, sO_21, sO_22, xCnt_sW, xCnt_sN, xCnt_sO]; try rfl)
    | 9, _ => first | rfl | (simp [cellX, arI, arZ, arQ, bNeed, mArr, nP, nB, nW, pHome, wTown, wBand, wDay, wState, tod, pIns, pFee, pSongs, pFeuds, pEarned, wStart, wLen, wSongs, wTold, wSet, wPrice, wPaid, wLate, bShape, sKey, sEnergy, sMin, sPlayed, rHours, rDrives, pOff, bGiv, sW_1, sW_21, sW_22, sN_1, sN_21, sN_22, sO_1, sO_21, sO_22, xCnt_sW, xCnt_sN, xCnt_sO]; try rfl)
    | 10, _ => first | rfl | (simp [cellX, arI, arZ, arQ, bNeed, mArr, nP, nB, nW, pHome, wTown, wBand, wDay, wState, tod, pIns, pFee, pSongs, pFeuds, pEarned, wStart, wLen, wSongs, wTold, wSet, wPrice, wPaid, wLate, bShape, sKey, sEnergy, sMin, sPlayed, rHours, rDrives, pOff, bGiv, sW_1, sW_21, sW_22, sN_1, sN_21, sN_22, sO_1, sO_21, sO_22, xCnt_sW, xCnt_sN, xCnt_sO]; try rfl)
    | 11, _ =>
      have e9 : bGiv (sW σ 40 d v) j' = bGiv σ j' := sW_gv (by omega)
      show (if j' < nB σ then some (arI E 6 (bGiv (sW σ 40 d v) j')) else none) = _
      rw [e9]
      rfl
    | n + 12, _ => rfl

set_option maxHeartbeats 4000000 in
theorem RX.Pdr {D : va_G} {E : Nat → Nat} {α : Nat → Nat → Nat} {F : Nat → Prop} {σ : St} {H H1 : Heap} (h : RX D E α F σ H) {d : Nat} {v : Int32} (he : va_at D vwCl (α 8 1, .inl (E 1, 36, .inl (upd (rDrives σ) d v))) H1) (hq : ∀ q, q ≠ α 8 1 → H1[q]? = H[q]?) : RX D E α F (sW σ 41 d v) H1 := by
  obtain ⟨h1, h0, γ, h2, h3⟩ := h
  refine ⟨h1, h0, γ, (fun a ha => by rw [xCnt_sW]; exact h2 a ha), h3.put (i := 8) (j := 1) (e0 := _) rfl he hq (fun i' j' => ?_)⟩
  by_cases hi : i' = 8
  · subst hi
    by_cases hj : j' = 1
    · subst hj
      rw [if_pos ⟨rfl, rfl⟩]
      simp [cellX, arI, arZ, mArr, nP, nB, nW, pHome, wTown, wBand, wDay, wState, tod, pIns, pFee, pSongs, pFeuds, pEarned, wStart, wLen, wSongs, wTold, wSet, wPrice, wPaid, wLate, bShape, sKey, sEnergy, sMin, sPlayed, rHours, rDrives, pOff, bGiv, sW_1, sW_21, sW_22, sN_1, sN_21, sN_22, sO_1, sO_21, sO_22, ]
      funext b; simp [upd, nP, nB, nW, pHome, wTown, wBand, wDay, wState, tod, pIns, pFee, pSongs, pFeuds, pEarned, wStart, wLen, wSongs, wTold, wSet, wPrice, wPaid, wLate, bShape, sKey, sEnergy, sMin, sPlayed, rHours, rDrives, pOff, bGiv, sW_1, sW_21, sW_22, sN_1, sN_21, sN_22, sO_1, sO_21, sO_22]
    · rw [if_neg (fun z => hj z.2)]
      simp [cellX, arI, arZ, mArr, nP, nB, nW, pHome, wTown, wBand, wDay, wState, tod, pIns, pFee, pSongs, pFeuds, pEarned, wStart, wLen, wSongs, wTold, wSet, wPrice, wPaid, wLate, bShape, sKey, sEnergy, sMin, sPlayed, rHours, rDrives, pOff, bGiv, sW_1, sW_21, sW_22, sN_1, sN_21, sN_22, sO_1, sO_21, sO_22, hj]
      try rfl
  · rw [if_neg (fun z => hi z.1)]
    match i', hi with
    | 0, _ => first | rfl | (simp [cellX, arI, arZ, arQ, bNeed, mArr, nP, nB, nW, pHome, wTown, wBand, wDay, wState, tod, pIns, pFee, pSongs, pFeuds, pEarned, wStart, wLen, wSongs, wTold, wSet, wPrice, wPaid, wLate, bShape, sKey, sEnergy, sMin, sPlayed, rHours, rDrives, pOff, bGiv, sW_1, sW_21, sW_22, sN_1, sN_21, sN_22, sO_1, sO_21, sO_22, xCnt_sW, xCnt_sN, xCnt_sO]; try rfl)
    | 1, _ => first | rfl | (simp [cellX, arI, arZ, arQ, bNeed, mArr, nP, nB, nW, pHome, wTown, wBand, wDay, wState, tod, pIns, pFee, pSongs, pFeuds, pEarned, wStart, wLen, wSongs, wTold, wSet, wPrice, wPaid, wLate, bShape, sKey, sEnergy, sMin, sPlayed, rHours, rDrives, pOff, bGiv, sW_1, sW_21, sW_22, sN_1, sN_21, sN_22, sO_1, sO_21, sO_22, xCnt_sW, xCnt_sN, xCnt_sO]; try rfl)
    | 2, _ => first | rfl | (simp [cellX, arI, arZ, arQ, bNeed, mArr, nP, nB, nW, pHome, wTown, wBand, wDay, wState, tod, pIns, pFee, pSongs, pFeuds, pEarned, wStart, wLen, wSongs, wTold, wSet, wPrice, wPaid, wLate, bShape, sKey, sEnergy, sMin, sPlayed, rHours, rDrives, pOff, bGiv, sW_1, sW_21, sW_22, sN_1, sN_21, sN_22, sO_1, sO_21, sO_22, xCnt_sW, xCnt_sN, xCnt_sO]; try rfl)
    | 3, _ => first | rfl | (simp [cellX, arI, arZ, arQ, bNeed, mArr, nP, nB, nW, pHome, wTown, wBand, wDay, wState, tod, pIns, pFee, pSongs, pFeuds, pEarned, wStart, wLen, wSongs, wTold, wSet, wPrice, wPaid, wLate, bShape, sKey, sEnergy, sMin, sPlayed, rHours, rDrives, pOff, bGiv, sW_1, sW_21, sW_22, sN_1, sN_21, sN_22, sO_1, sO_21, sO_22, xCnt_sW, xCnt_sN, xCnt_sO]; try rfl)
    | 4, _ => first | rfl | (simp [cellX, arI, arZ, arQ, bNeed, mArr, nP, nB, nW, pHome, wTown, wBand, wDay, wState, tod, pIns, pFee, pSongs, pFeuds, pEarned, wStart, wLen, wSongs, wTold, wSet, wPrice, wPaid, wLate, bShape, sKey, sEnergy, sMin, sPlayed, rHours, rDrives, pOff, bGiv, sW_1, sW_21, sW_22, sN_1, sN_21, sN_22, sO_1, sO_21, sO_22, xCnt_sW, xCnt_sN, xCnt_sO]; try rfl)
    | 5, _ => first | rfl | (simp [cellX, arI, arZ, arQ, bNeed, mArr, nP, nB, nW, pHome, wTown, wBand, wDay, wState, tod, pIns, pFee, pSongs, pFeuds, pEarned, wStart, wLen, wSongs, wTold, wSet, wPrice, wPaid, wLate, bShape, sKey, sEnergy, sMin, sPlayed, rHours, rDrives, pOff, bGiv, sW_1, sW_21, sW_22, sN_1, sN_21, sN_22, sO_1, sO_21, sO_22, xCnt_sW, xCnt_sN, xCnt_sO]; try rfl)
    | 6, _ => first | rfl | (simp [cellX, arI, arZ, arQ, bNeed, mArr, nP, nB, nW, pHome, wTown, wBand, wDay, wState, tod, pIns, pFee, pSongs, pFeuds, pEarned, wStart, wLen, wSongs, wTold, wSet, wPrice, wPaid, wLate, bShape, sKey, sEnergy, sMin, sPlayed, rHours, rDrives, pOff, bGiv, sW_1, sW_21, sW_22, sN_1, sN_21, sN_22, sO_1, sO_21, sO_22, xCnt_sW, xCnt_sN, xCnt_sO]; try rfl)
    | 7, _ => first | rfl | (simp [cellX, arI, arZ, arQ, bNeed, mArr, nP, nB, nW, pHome, wTown, wBand, wDay, wState, tod, pIns, pFee, pSongs, pFeuds, pEarned, wStart, wLen, wSongs, wTold, wSet, wPrice, wPaid, wLate, bShape, sKey, sEnergy, sMin, sPlayed, rHours, rDrives, pOff, bGiv, sW_1, sW_21, sW_22, sN_1, sN_21, sN_22, sO_1, sO_21, sO_22, xCnt_sW, xCnt_sN, xCnt_sO]; try rfl)
    | 9, _ => first | rfl | (simp [cellX, arI, arZ, arQ, bNeed, mArr, nP, nB, nW, pHome, wTown, wBand, wDay, wState, tod, pIns, pFee, pSongs, pFeuds, pEarned, wStart, wLen, wSongs, wTold, wSet, wPrice, wPaid, wLate, bShape, sKey, sEnergy, sMin, sPlayed, rHours, rDrives, pOff, bGiv, sW_1, sW_21, sW_22, sN_1, sN_21, sN_22, sO_1, sO_21, sO_22, xCnt_sW, xCnt_sN, xCnt_sO]; try rfl)
    | 10, _ => first | rfl | (simp [cellX, arI, arZ, arQ, bNeed, mArr, nP, nB, nW, pHome, wTown, wBand, wDay, wState, tod, pIns, pFee, pSongs, pFeuds, pEarned, wStart, wLen, wSongs, wTold, wSet, wPrice, wPaid, wLate, bShape, sKey, sEnergy, sMin, sPlayed, rHours, rDrives, pOff, bGiv, sW_1, sW_21, sW_22, sN_1, sN_21, sN_22, sO_1, sO_21, sO_22, xCnt_sW, xCnt_sN, xCnt_sO]; try rfl)
    | 11, _ =>
      have e9 : bGiv (sW σ 41 d v) j' = bGiv σ j' := sW_gv (by omega)
      show (if j' < nB σ then some (arI E 6 (bGiv (sW σ 41 d v) j')) else none) = _
      rw [e9]
      rfl
    | n + 12, _ => rfl

set_option maxHeartbeats 4000000 in
theorem RM.Pp12 {D : va_G} {E : Nat → Nat} {β : Nat → Nat → Nat} {F : Nat → Prop} {σ : St} {th ca : Int32} {sm : Int64} {H H1 : Heap} (h : RM D E β F σ th ca sm H) {k : Nat} (hk : k < nP σ) {v : Int32} (he : va_at D vwCl (β 3 k, .inr (6, [.int (pIns σ k), .int v, .int (nI (pHome σ k)), .int (pFee σ k), .int (pFeuds σ k), .int (pEarned σ k), .ref (β 4 k)])) H1) (hq : ∀ q, q ≠ β 3 k → H1[q]? = H[q]?) : RM D E β F (sW σ 12 k v) th ca sm H1 := by
  obtain ⟨h1, h0, γ, h2, h3⟩ := h
  refine ⟨h1, h0, γ, ⟨fun a ha => by rw [mCnt_sW]; exact h2.1 a ha, h2.2⟩, h3.put (i := 3) (j := k) (e0 := _) (if_pos hk) he hq (fun i' j' => ?_)⟩
  by_cases hi : i' = 3
  · subst hi
    by_cases hj : j' = k
    · subst hj
      rw [if_pos ⟨rfl, rfl⟩]
      simp [cellM, arI, arZ, mArr, nP, nB, nW, pHome, wTown, wBand, wDay, wState, tod, pIns, pFee, pSongs, pFeuds, pEarned, wStart, wLen, wSongs, wTold, wSet, wPrice, wPaid, wLate, bShape, sKey, sEnergy, sMin, sPlayed, rHours, rDrives, pOff, bGiv, sW_1, sW_21, sW_22, sN_1, sN_21, sN_22, sO_1, sO_21, sO_22, hk]
      try rfl
    · rw [if_neg (fun z => hj z.2)]
      simp [cellM, arI, arZ, mArr, nP, nB, nW, pHome, wTown, wBand, wDay, wState, tod, pIns, pFee, pSongs, pFeuds, pEarned, wStart, wLen, wSongs, wTold, wSet, wPrice, wPaid, wLate, bShape, sKey, sEnergy, sMin, sPlayed, rHours, rDrives, pOff, bGiv, sW_1, sW_21, sW_22, sN_1, sN_21, sN_22, sO_1, sO_21, sO_22, hj]
      try rfl
  · rw [if_neg (fun z => hi z.1)]
    match i', hi with
    | 0, _ => first | rfl | (simp [cellM, arI, arZ, arQ, bNeed, mArr, nP, nB, nW, pHome, wTown, wBand, wDay, wState, tod, pIns, pFee, pSongs, pFeuds, pEarned, wStart, wLen, wSongs, wTold, wSet, wPrice, wPaid, wLate, bShape, sKey, sEnergy, sMin, sPlayed, rHours, rDrives, pOff, bGiv, sW_1, sW_21, sW_22, sN_1, sN_21, sN_22, sO_1, sO_21, sO_22, mCnt_sW, mCnt_sN, mCnt_sO]; try rfl)
    | 1, _ => first | rfl | (simp [cellM, arI, arZ, arQ, bNeed, mArr, nP, nB, nW, pHome, wTown, wBand, wDay, wState, tod, pIns, pFee, pSongs, pFeuds, pEarned, wStart, wLen, wSongs, wTold, wSet, wPrice, wPaid, wLate, bShape, sKey, sEnergy, sMin, sPlayed, rHours, rDrives, pOff, bGiv, sW_1, sW_21, sW_22, sN_1, sN_21, sN_22, sO_1, sO_21, sO_22, mCnt_sW, mCnt_sN, mCnt_sO]; try rfl)
    | 2, _ => first | rfl | (simp [cellM, arI, arZ, arQ, bNeed, mArr, nP, nB, nW, pHome, wTown, wBand, wDay, wState, tod, pIns, pFee, pSongs, pFeuds, pEarned, wStart, wLen, wSongs, wTold, wSet, wPrice, wPaid, wLate, bShape, sKey, sEnergy, sMin, sPlayed, rHours, rDrives, pOff, bGiv, sW_1, sW_21, sW_22, sN_1, sN_21, sN_22, sO_1, sO_21, sO_22, mCnt_sW, mCnt_sN, mCnt_sO]; try rfl)
    | 4, _ => first | rfl | (simp [cellM, arI, arZ, arQ, bNeed, mArr, nP, nB, nW, pHome, wTown, wBand, wDay, wState, tod, pIns, pFee, pSongs, pFeuds, pEarned, wStart, wLen, wSongs, wTold, wSet, wPrice, wPaid, wLate, bShape, sKey, sEnergy, sMin, sPlayed, rHours, rDrives, pOff, bGiv, sW_1, sW_21, sW_22, sN_1, sN_21, sN_22, sO_1, sO_21, sO_22, mCnt_sW, mCnt_sN, mCnt_sO]; try rfl)
    | 5, _ => first | rfl | (simp [cellM, arI, arZ, arQ, bNeed, mArr, nP, nB, nW, pHome, wTown, wBand, wDay, wState, tod, pIns, pFee, pSongs, pFeuds, pEarned, wStart, wLen, wSongs, wTold, wSet, wPrice, wPaid, wLate, bShape, sKey, sEnergy, sMin, sPlayed, rHours, rDrives, pOff, bGiv, sW_1, sW_21, sW_22, sN_1, sN_21, sN_22, sO_1, sO_21, sO_22, mCnt_sW, mCnt_sN, mCnt_sO]; try rfl)
    | 6, _ => first | rfl | (simp [cellM, arI, arZ, arQ, bNeed, mArr, nP, nB, nW, pHome, wTown, wBand, wDay, wState, tod, pIns, pFee, pSongs, pFeuds, pEarned, wStart, wLen, wSongs, wTold, wSet, wPrice, wPaid, wLate, bShape, sKey, sEnergy, sMin, sPlayed, rHours, rDrives, pOff, bGiv, sW_1, sW_21, sW_22, sN_1, sN_21, sN_22, sO_1, sO_21, sO_22, mCnt_sW, mCnt_sN, mCnt_sO]; try rfl)
    | 7, _ => first | rfl | (simp [cellM, arI, arZ, arQ, bNeed, mArr, nP, nB, nW, pHome, wTown, wBand, wDay, wState, tod, pIns, pFee, pSongs, pFeuds, pEarned, wStart, wLen, wSongs, wTold, wSet, wPrice, wPaid, wLate, bShape, sKey, sEnergy, sMin, sPlayed, rHours, rDrives, pOff, bGiv, sW_1, sW_21, sW_22, sN_1, sN_21, sN_22, sO_1, sO_21, sO_22, mCnt_sW, mCnt_sN, mCnt_sO]; try rfl)
    | 8, _ => first | rfl | (simp [cellM, arI, arZ, arQ, bNeed, mArr, nP, nB, nW, pHome, wTown, wBand, wDay, wState, tod, pIns, pFee, pSongs, pFeuds, pEarned, wStart, wLen, wSongs, wTold, wSet, wPrice, wPaid, wLate, bShape, sKey, sEnergy, sMin, sPlayed, rHours, rDrives, pOff, bGiv, sW_1, sW_21, sW_22, sN_1, sN_21, sN_22, sO_1, sO_21, sO_22, mCnt_sW, mCnt_sN, mCnt_sO]; try rfl)
    | 9, _ => first | rfl | (simp [cellM, arI, arZ, arQ, bNeed, mArr, nP, nB, nW, pHome, wTown, wBand, wDay, wState, tod, pIns, pFee, pSongs, pFeuds, pEarned, wStart, wLen, wSongs, wTold, wSet, wPrice, wPaid, wLate, bShape, sKey, sEnergy, sMin, sPlayed, rHours, rDrives, pOff, bGiv, sW_1, sW_21, sW_22, sN_1, sN_21, sN_22, sO_1, sO_21, sO_22, mCnt_sW, mCnt_sN, mCnt_sO]; try rfl)
    | n + 10, _ => rfl

set_option maxHeartbeats 4000000 in
theorem RM.Pp13 {D : va_G} {E : Nat → Nat} {β : Nat → Nat → Nat} {F : Nat → Prop} {σ : St} {th ca : Int32} {sm : Int64} {H H1 : Heap} (h : RM D E β F σ th ca sm H) {k : Nat} (hk : k < nP σ) {v : Int32} (he : va_at D vwCl (β 3 k, .inr (6, [.int (pIns σ k), .int (pSongs σ k), .int (nI (pHome σ k)), .int (pFee σ k), .int v, .int (pEarned σ k), .ref (β 4 k)])) H1) (hq : ∀ q, q ≠ β 3 k → H1[q]? = H[q]?) : RM D E β F (sW σ 13 k v) th ca sm H1 := by
  obtain ⟨h1, h0, γ, h2, h3⟩ := h
  refine ⟨h1, h0, γ, ⟨fun a ha => by rw [mCnt_sW]; exact h2.1 a ha, h2.2⟩, h3.put (i := 3) (j := k) (e0 := _) (if_pos hk) he hq (fun i' j' => ?_)⟩
  by_cases hi : i' = 3
  · subst hi
    by_cases hj : j' = k
    · subst hj
      rw [if_pos ⟨rfl, rfl⟩]
      simp [cellM, arI, arZ, mArr, nP, nB, nW, pHome, wTown, wBand, wDay, wState, tod, pIns, pFee, pSongs, pFeuds, pEarned, wStart, wLen, wSongs, wTold, wSet, wPrice, wPaid, wLate, bShape, sKey, sEnergy, sMin, sPlayed, rHours, rDrives, pOff, bGiv, sW_1, sW_21, sW_22, sN_1, sN_21, sN_22, sO_1, sO_21, sO_22, hk]
      try rfl
    · rw [if_neg (fun z => hj z.2)]
      simp [cellM, arI, arZ, mArr, nP, nB, nW, pHome, wTown, wBand, wDay, wState, tod, pIns, pFee, pSongs, pFeuds, pEarned, wStart, wLen, wSongs, wTold, wSet, wPrice, wPaid, wLate, bShape, sKey, sEnergy, sMin, sPlayed, rHours, rDrives, pOff, bGiv, sW_1, sW_21, sW_22, sN_1, sN_21, sN_22, sO_1, sO_21, sO_22, hj]
      try rfl
  · rw [if_neg (fun z => hi z.1)]
    match i', hi with
    | 0, _ => first | rfl | (simp [cellM, arI, arZ, arQ, bNeed, mArr, nP, nB, nW, pHome, wTown, wBand, wDay, wState, tod, pIns, pFee, pSongs, pFeuds, pEarned, wStart, wLen, wSongs, wTold, wSet, wPrice, wPaid, wLate, bShape, sKey, sEnergy, sMin, sPlayed, rHours, rDrives, pOff, bGiv, sW_1, sW_21, sW_22, sN_1, sN_21, sN_22, sO_1, sO_21, sO_22, mCnt_sW, mCnt_sN, mCnt_sO]; try rfl)
    | 1, _ => first | rfl | (simp [cellM, arI, arZ, arQ, bNeed, mArr, nP, nB, nW, pHome, wTown, wBand, wDay, wState, tod, pIns, pFee, pSongs, pFeuds, pEarned, wStart, wLen, wSongs, wTold, wSet, wPrice, wPaid, wLate, bShape, sKey, sEnergy, sMin, sPlayed, rHours, rDrives, pOff, bGiv, sW_1, sW_21, sW_22, sN_1, sN_21, sN_22, sO_1, sO_21, sO_22, mCnt_sW, mCnt_sN, mCnt_sO]; try rfl)
    | 2, _ => first | rfl | (simp [cellM, arI, arZ, arQ, bNeed, mArr, nP, nB, nW, pHome, wTown, wBand, wDay, wState, tod, pIns, pFee, pSongs, pFeuds, pEarned, wStart, wLen, wSongs, wTold, wSet, wPrice, wPaid, wLate, bShape, sKey, sEnergy, sMin, sPlayed, rHours, rDrives, pOff, bGiv, sW_1, sW_21, sW_22, sN_1, sN_21, sN_22, sO_1, sO_21, sO_22, mCnt_sW, mCnt_sN, mCnt_sO]; try rfl)
    | 4, _ => first | rfl | (simp [cellM, arI, arZ, arQ, bNeed, mArr, nP, nB, nW, pHome, wTown, wBand, wDay, wState, tod, pIns, pFee, pSongs, pFeuds, pEarned, wStart, wLen, wSongs, wTold, wSet, wPrice, wPaid, wLate, bShape, sKey, sEnergy, sMin, sPlayed, rHours, rDrives, pOff, bGiv, sW_1, sW_21, sW_22, sN_1, sN_21, sN_22, sO_1, sO_21, sO_22, mCnt_sW, mCnt_sN, mCnt_sO]; try rfl)
    | 5, _ => first | rfl | (simp [cellM, arI, arZ, arQ, bNeed, mArr, nP, nB, nW, pHome, wTown, wBand, wDay, wState, tod, pIns, pFee, pSongs, pFeuds, pEarned, wStart, wLen, wSongs, wTold, wSet, wPrice, wPaid, wLate, bShape, sKey, sEnergy, sMin, sPlayed, rHours, rDrives, pOff, bGiv, sW_1, sW_21, sW_22, sN_1, sN_21, sN_22, sO_1, sO_21, sO_22, mCnt_sW, mCnt_sN, mCnt_sO]; try rfl)
    | 6, _ => first | rfl | (simp [cellM, arI, arZ, arQ, bNeed, mArr, nP, nB, nW, pHome, wTown, wBand, wDay, wState, tod, pIns, pFee, pSongs, pFeuds, pEarned, wStart, wLen, wSongs, wTold, wSet, wPrice, wPaid, wLate, bShape, sKey, sEnergy, sMin, sPlayed, rHours, rDrives, pOff, bGiv, sW_1, sW_21, sW_22, sN_1, sN_21, sN_22, sO_1, sO_21, sO_22, mCnt_sW, mCnt_sN, mCnt_sO]; try rfl)
    | 7, _ => first | rfl | (simp [cellM, arI, arZ, arQ, bNeed, mArr, nP, nB, nW, pHome, wTown, wBand, wDay, wState, tod, pIns, pFee, pSongs, pFeuds, pEarned, wStart, wLen, wSongs, wTold, wSet, wPrice, wPaid, wLate, bShape, sKey, sEnergy, sMin, sPlayed, rHours, rDrives, pOff, bGiv, sW_1, sW_21, sW_22, sN_1, sN_21, sN_22, sO_1, sO_21, sO_22, mCnt_sW, mCnt_sN, mCnt_sO]; try rfl)
    | 8, _ => first | rfl | (simp [cellM, arI, arZ, arQ, bNeed, mArr, nP, nB, nW, pHome, wTown, wBand, wDay, wState, tod, pIns, pFee, pSongs, pFeuds, pEarned, wStart, wLen, wSongs, wTold, wSet, wPrice, wPaid, wLate, bShape, sKey, sEnergy, sMin, sPlayed, rHours, rDrives, pOff, bGiv, sW_1, sW_21, sW_22, sN_1, sN_21, sN_22, sO_1, sO_21, sO_22, mCnt_sW, mCnt_sN, mCnt_sO]; try rfl)
    | 9, _ => first | rfl | (simp [cellM, arI, arZ, arQ, bNeed, mArr, nP, nB, nW, pHome, wTown, wBand, wDay, wState, tod, pIns, pFee, pSongs, pFeuds, pEarned, wStart, wLen, wSongs, wTold, wSet, wPrice, wPaid, wLate, bShape, sKey, sEnergy, sMin, sPlayed, rHours, rDrives, pOff, bGiv, sW_1, sW_21, sW_22, sN_1, sN_21, sN_22, sO_1, sO_21, sO_22, mCnt_sW, mCnt_sN, mCnt_sO]; try rfl)
    | n + 10, _ => rfl

set_option maxHeartbeats 4000000 in
theorem RM.Pp14 {D : va_G} {E : Nat → Nat} {β : Nat → Nat → Nat} {F : Nat → Prop} {σ : St} {th ca : Int32} {sm : Int64} {H H1 : Heap} (h : RM D E β F σ th ca sm H) {k : Nat} (hk : k < nP σ) {v : Int32} (he : va_at D vwCl (β 3 k, .inr (6, [.int (pIns σ k), .int (pSongs σ k), .int (nI (pHome σ k)), .int (pFee σ k), .int (pFeuds σ k), .int v, .ref (β 4 k)])) H1) (hq : ∀ q, q ≠ β 3 k → H1[q]? = H[q]?) : RM D E β F (sW σ 14 k v) th ca sm H1 := by
  obtain ⟨h1, h0, γ, h2, h3⟩ := h
  refine ⟨h1, h0, γ, ⟨fun a ha => by rw [mCnt_sW]; exact h2.1 a ha, h2.2⟩, h3.put (i := 3) (j := k) (e0 := _) (if_pos hk) he hq (fun i' j' => ?_)⟩
  by_cases hi : i' = 3
  · subst hi
    by_cases hj : j' = k
    · subst hj
      rw [if_pos ⟨rfl, rfl⟩]
      simp [cellM, arI, arZ, mArr, nP, nB, nW, pHome, wTown, wBand, wDay, wState, tod, pIns, pFee, pSongs, pFeuds, pEarned, wStart, wLen, wSongs, wTold, wSet, wPrice, wPaid, wLate, bShape, sKey, sEnergy, sMin, sPlayed, rHours, rDrives, pOff, bGiv, sW_1, sW_21, sW_22, sN_1, sN_21, sN_22, sO_1, sO_21, sO_22, hk]
      try rfl
    · rw [if_neg (fun z => hj z.2)]
      simp [cellM, arI, arZ, mArr, nP, nB, nW, pHome, wTown, wBand, wDay, wState, tod, pIns, pFee, pSongs, pFeuds, pEarned, wStart, wLen, wSongs, wTold, wSet, wPrice, wPaid, wLate, bShape, sKey, sEnergy, sMin, sPlayed, rHours, rDrives, pOff, bGiv, sW_1, sW_21, sW_22, sN_1, sN_21, sN_22, sO_1, sO_21, sO_22, hj]
      try rfl
  · rw [if_neg (fun z => hi z.1)]
    match i', hi with
    | 0, _ => first | rfl | (simp [cellM, arI, arZ, arQ, bNeed, mArr, nP, nB, nW, pHome, wTown, wBand, wDay, wState, tod, pIns, pFee, pSongs, pFeuds, pEarned, wStart, wLen, wSongs, wTold, wSet, wPrice, wPaid, wLate, bShape, sKey, sEnergy, sMin, sPlayed, rHours, rDrives, pOff, bGiv, sW_1, sW_21, sW_22, sN_1, sN_21, sN_22, sO_1, sO_21, sO_22, mCnt_sW, mCnt_sN, mCnt_sO]; try rfl)
    | 1, _ => first | rfl | (simp [cellM, arI, arZ, arQ, bNeed, mArr, nP, nB, nW, pHome, wTown, wBand, wDay, wState, tod, pIns, pFee, pSongs, pFeuds, pEarned, wStart, wLen, wSongs, wTold, wSet, wPrice, wPaid, wLate, bShape, sKey, sEnergy, sMin, sPlayed, rHours, rDrives, pOff, bGiv, sW_1, sW_21, sW_22, sN_1, sN_21, sN_22, sO_1, sO_21, sO_22, mCnt_sW, mCnt_sN, mCnt_sO]; try rfl)
    | 2, _ => first | rfl | (simp [cellM, arI, arZ, arQ, bNeed, mArr, nP, nB, nW, pHome, wTown, wBand, wDay, wState, tod, pIns, pFee, pSongs, pFeuds, pEarned, wStart, wLen, wSongs, wTold, wSet, wPrice, wPaid, wLate, bShape, sKey, sEnergy, sMin, sPlayed, rHours, rDrives, pOff, bGiv, sW_1, sW_21, sW_22, sN_1, sN_21, sN_22, sO_1, sO_21, sO_22, mCnt_sW, mCnt_sN, mCnt_sO]; try rfl)
    | 4, _ => first | rfl | (simp [cellM, arI, arZ, arQ, bNeed, mArr, nP, nB, nW, pHome, wTown, wBand, wDay, wState, tod, pIns, pFee, pSongs, pFeuds, pEarned, wStart, wLen, wSongs, wTold, wSet, wPrice, wPaid, wLate, bShape, sKey, sEnergy, sMin, sPlayed, rHours, rDrives, pOff, bGiv, sW_1, sW_21, sW_22, sN_1, sN_21, sN_22, sO_1, sO_21, sO_22, mCnt_sW, mCnt_sN, mCnt_sO]; try rfl)
    | 5, _ => first | rfl | (simp [cellM, arI, arZ, arQ, bNeed, mArr, nP, nB, nW, pHome, wTown, wBand, wDay, wState, tod, pIns, pFee, pSongs, pFeuds, pEarned, wStart, wLen, wSongs, wTold, wSet, wPrice, wPaid, wLate, bShape, sKey, sEnergy, sMin, sPlayed, rHours, rDrives, pOff, bGiv, sW_1, sW_21, sW_22, sN_1, sN_21, sN_22, sO_1, sO_21, sO_22, mCnt_sW, mCnt_sN, mCnt_sO]; try rfl)
    | 6, _ => first | rfl | (simp [cellM, arI, arZ, arQ, bNeed, mArr, nP, nB, nW, pHome, wTown, wBand, wDay, wState, tod, pIns, pFee, pSongs, pFeuds, pEarned, wStart, wLen, wSongs, wTold, wSet, wPrice, wPaid, wLate, bShape, sKey, sEnergy, sMin, sPlayed, rHours, rDrives, pOff, bGiv, sW_1, sW_21, sW_22, sN_1, sN_21, sN_22, sO_1, sO_21, sO_22, mCnt_sW, mCnt_sN, mCnt_sO]; try rfl)
    | 7, _ => first | rfl | (simp [cellM, arI, arZ, arQ, bNeed, mArr, nP, nB, nW, pHome, wTown, wBand, wDay, wState, tod, pIns, pFee, pSongs, pFeuds, pEarned, wStart, wLen, wSongs, wTold, wSet, wPrice, wPaid, wLate, bShape, sKey, sEnergy, sMin, sPlayed, rHours, rDrives, pOff, bGiv, sW_1, sW_21, sW_22, sN_1, sN_21, sN_22, sO_1, sO_21, sO_22, mCnt_sW, mCnt_sN, mCnt_sO]; try rfl)
    | 8, _ => first | rfl | (simp [cellM, arI, arZ, arQ, bNeed, mArr, nP, nB, nW, pHome, wTown, wBand, wDay, wState, tod, pIns, pFee, pSongs, pFeuds, pEarned, wStart, wLen, wSongs, wTold, wSet, wPrice, wPaid, wLate, bShape, sKey, sEnergy, sMin, sPlayed, rHours, rDrives, pOff, bGiv, sW_1, sW_21, sW_22, sN_1, sN_21, sN_22, sO_1, sO_21, sO_22, mCnt_sW, mCnt_sN, mCnt_sO]; try rfl)
    | 9, _ => first | rfl | (simp [cellM, arI, arZ, arQ, bNeed, mArr, nP, nB, nW, pHome, wTown, wBand, wDay, wState, tod, pIns, pFee, pSongs, pFeuds, pEarned, wStart, wLen, wSongs, wTold, wSet, wPrice, wPaid, wLate, bShape, sKey, sEnergy, sMin, sPlayed, rHours, rDrives, pOff, bGiv, sW_1, sW_21, sW_22, sN_1, sN_21, sN_22, sO_1, sO_21, sO_22, mCnt_sW, mCnt_sN, mCnt_sO]; try rfl)
    | n + 10, _ => rfl

set_option maxHeartbeats 4000000 in
theorem RM.Pw24 {D : va_G} {E : Nat → Nat} {β : Nat → Nat → Nat} {F : Nat → Prop} {σ : St} {th ca : Int32} {sm : Int64} {H H1 : Heap} (h : RM D E β F σ th ca sm H) {k : Nat} (hk : k < nW σ) {v : Int32} (he : va_at D vwCl (β 5 k, .inr (9, [.int (nI (wBand σ k)), .int (nI (wDay σ k)), .int (nI (wTown σ k)), .int (wStart σ k), .int (wLen σ k), .int (wSongs σ k), .int (wTold σ k), .int (nI (wState σ k)), .int v, .int (wPrice σ k), .int (wLate σ k), .int (wPaid σ k)])) H1) (hq : ∀ q, q ≠ β 5 k → H1[q]? = H[q]?) : RM D E β F (sW σ 24 k v) th ca sm H1 := by
  obtain ⟨h1, h0, γ, h2, h3⟩ := h
  refine ⟨h1, h0, γ, ⟨fun a ha => by rw [mCnt_sW]; exact h2.1 a ha, h2.2⟩, h3.put (i := 5) (j := k) (e0 := _) (if_pos hk) he hq (fun i' j' => ?_)⟩
  by_cases hi : i' = 5
  · subst hi
    by_cases hj : j' = k
    · subst hj
      rw [if_pos ⟨rfl, rfl⟩]
      simp [cellM, arI, arZ, mArr, nP, nB, nW, pHome, wTown, wBand, wDay, wState, tod, pIns, pFee, pSongs, pFeuds, pEarned, wStart, wLen, wSongs, wTold, wSet, wPrice, wPaid, wLate, bShape, sKey, sEnergy, sMin, sPlayed, rHours, rDrives, pOff, bGiv, sW_1, sW_21, sW_22, sN_1, sN_21, sN_22, sO_1, sO_21, sO_22, hk]
      try rfl
    · rw [if_neg (fun z => hj z.2)]
      simp [cellM, arI, arZ, mArr, nP, nB, nW, pHome, wTown, wBand, wDay, wState, tod, pIns, pFee, pSongs, pFeuds, pEarned, wStart, wLen, wSongs, wTold, wSet, wPrice, wPaid, wLate, bShape, sKey, sEnergy, sMin, sPlayed, rHours, rDrives, pOff, bGiv, sW_1, sW_21, sW_22, sN_1, sN_21, sN_22, sO_1, sO_21, sO_22, hj]
      try rfl
  · rw [if_neg (fun z => hi z.1)]
    match i', hi with
    | 0, _ => first | rfl | (simp [cellM, arI, arZ, arQ, bNeed, mArr, nP, nB, nW, pHome, wTown, wBand, wDay, wState, tod, pIns, pFee, pSongs, pFeuds, pEarned, wStart, wLen, wSongs, wTold, wSet, wPrice, wPaid, wLate, bShape, sKey, sEnergy, sMin, sPlayed, rHours, rDrives, pOff, bGiv, sW_1, sW_21, sW_22, sN_1, sN_21, sN_22, sO_1, sO_21, sO_22, mCnt_sW, mCnt_sN, mCnt_sO]; try rfl)
    | 1, _ => first | rfl | (simp [cellM, arI, arZ, arQ, bNeed, mArr, nP, nB, nW, pHome, wTown, wBand, wDay, wState, tod, pIns, pFee, pSongs, pFeuds, pEarned, wStart, wLen, wSongs, wTold, wSet, wPrice, wPaid, wLate, bShape, sKey, sEnergy, sMin, sPlayed, rHours, rDrives, pOff, bGiv, sW_1, sW_21, sW_22, sN_1, sN_21, sN_22, sO_1, sO_21, sO_22, mCnt_sW, mCnt_sN, mCnt_sO]; try rfl)
    | 2, _ => first | rfl | (simp [cellM, arI, arZ, arQ, bNeed, mArr, nP, nB, nW, pHome, wTown, wBand, wDay, wState, tod, pIns, pFee, pSongs, pFeuds, pEarned, wStart, wLen, wSongs, wTold, wSet, wPrice, wPaid, wLate, bShape, sKey, sEnergy, sMin, sPlayed, rHours, rDrives, pOff, bGiv, sW_1, sW_21, sW_22, sN_1, sN_21, sN_22, sO_1, sO_21, sO_22, mCnt_sW, mCnt_sN, mCnt_sO]; try rfl)
    | 3, _ => first | rfl | (simp [cellM, arI, arZ, arQ, bNeed, mArr, nP, nB, nW, pHome, wTown, wBand, wDay, wState, tod, pIns, pFee, pSongs, pFeuds, pEarned, wStart, wLen, wSongs, wTold, wSet, wPrice, wPaid, wLate, bShape, sKey, sEnergy, sMin, sPlayed, rHours, rDrives, pOff, bGiv, sW_1, sW_21, sW_22, sN_1, sN_21, sN_22, sO_1, sO_21, sO_22, mCnt_sW, mCnt_sN, mCnt_sO]; try rfl)
    | 4, _ => first | rfl | (simp [cellM, arI, arZ, arQ, bNeed, mArr, nP, nB, nW, pHome, wTown, wBand, wDay, wState, tod, pIns, pFee, pSongs, pFeuds, pEarned, wStart, wLen, wSongs, wTold, wSet, wPrice, wPaid, wLate, bShape, sKey, sEnergy, sMin, sPlayed, rHours, rDrives, pOff, bGiv, sW_1, sW_21, sW_22, sN_1, sN_21, sN_22, sO_1, sO_21, sO_22, mCnt_sW, mCnt_sN, mCnt_sO]; try rfl)
    | 6, _ => first | rfl | (simp [cellM, arI, arZ, arQ, bNeed, mArr, nP, nB, nW, pHome, wTown, wBand, wDay, wState, tod, pIns, pFee, pSongs, pFeuds, pEarned, wStart, wLen, wSongs, wTold, wSet, wPrice, wPaid, wLate, bShape, sKey, sEnergy, sMin, sPlayed, rHours, rDrives, pOff, bGiv, sW_1, sW_21, sW_22, sN_1, sN_21, sN_22, sO_1, sO_21, sO_22, mCnt_sW, mCnt_sN, mCnt_sO]; try rfl)
    | 7, _ => first | rfl | (simp [cellM, arI, arZ, arQ, bNeed, mArr, nP, nB, nW, pHome, wTown, wBand, wDay, wState, tod, pIns, pFee, pSongs, pFeuds, pEarned, wStart, wLen, wSongs, wTold, wSet, wPrice, wPaid, wLate, bShape, sKey, sEnergy, sMin, sPlayed, rHours, rDrives, pOff, bGiv, sW_1, sW_21, sW_22, sN_1, sN_21, sN_22, sO_1, sO_21, sO_22, mCnt_sW, mCnt_sN, mCnt_sO]; try rfl)
    | 8, _ => first | rfl | (simp [cellM, arI, arZ, arQ, bNeed, mArr, nP, nB, nW, pHome, wTown, wBand, wDay, wState, tod, pIns, pFee, pSongs, pFeuds, pEarned, wStart, wLen, wSongs, wTold, wSet, wPrice, wPaid, wLate, bShape, sKey, sEnergy, sMin, sPlayed, rHours, rDrives, pOff, bGiv, sW_1, sW_21, sW_22, sN_1, sN_21, sN_22, sO_1, sO_21, sO_22, mCnt_sW, mCnt_sN, mCnt_sO]; try rfl)
    | 9, _ => first | rfl | (simp [cellM, arI, arZ, arQ, bNeed, mArr, nP, nB, nW, pHome, wTown, wBand, wDay, wState, tod, pIns, pFee, pSongs, pFeuds, pEarned, wStart, wLen, wSongs, wTold, wSet, wPrice, wPaid, wLate, bShape, sKey, sEnergy, sMin, sPlayed, rHours, rDrives, pOff, bGiv, sW_1, sW_21, sW_22, sN_1, sN_21, sN_22, sO_1, sO_21, sO_22, mCnt_sW, mCnt_sN, mCnt_sO]; try rfl)
    | n + 10, _ => rfl

set_option maxHeartbeats 4000000 in
theorem RM.Pw25 {D : va_G} {E : Nat → Nat} {β : Nat → Nat → Nat} {F : Nat → Prop} {σ : St} {th ca : Int32} {sm : Int64} {H H1 : Heap} (h : RM D E β F σ th ca sm H) {k : Nat} (hk : k < nW σ) {v : Int32} (he : va_at D vwCl (β 5 k, .inr (9, [.int (nI (wBand σ k)), .int (nI (wDay σ k)), .int (nI (wTown σ k)), .int (wStart σ k), .int (wLen σ k), .int (wSongs σ k), .int (wTold σ k), .int (nI (wState σ k)), .int (wSet σ k), .int v, .int (wLate σ k), .int (wPaid σ k)])) H1) (hq : ∀ q, q ≠ β 5 k → H1[q]? = H[q]?) : RM D E β F (sW σ 25 k v) th ca sm H1 := by
  obtain ⟨h1, h0, γ, h2, h3⟩ := h
  refine ⟨h1, h0, γ, ⟨fun a ha => by rw [mCnt_sW]; exact h2.1 a ha, h2.2⟩, h3.put (i := 5) (j := k) (e0 := _) (if_pos hk) he hq (fun i' j' => ?_)⟩
  by_cases hi : i' = 5
  · subst hi
    by_cases hj : j' = k
    · subst hj
      rw [if_pos ⟨rfl, rfl⟩]
      simp [cellM, arI, arZ, mArr, nP, nB, nW, pHome, wTown, wBand, wDay, wState, tod, pIns, pFee, pSongs, pFeuds, pEarned, wStart, wLen, wSongs, wTold, wSet, wPrice, wPaid, wLate, bShape, sKey, sEnergy, sMin, sPlayed, rHours, rDrives, pOff, bGiv, sW_1, sW_21, sW_22, sN_1, sN_21, sN_22, sO_1, sO_21, sO_22, hk]
      try rfl
    · rw [if_neg (fun z => hj z.2)]
      simp [cellM, arI, arZ, mArr, nP, nB, nW, pHome, wTown, wBand, wDay, wState, tod, pIns, pFee, pSongs, pFeuds, pEarned, wStart, wLen, wSongs, wTold, wSet, wPrice, wPaid, wLate, bShape, sKey, sEnergy, sMin, sPlayed, rHours, rDrives, pOff, bGiv, sW_1, sW_21, sW_22, sN_1, sN_21, sN_22, sO_1, sO_21, sO_22, hj]
      try rfl
  · rw [if_neg (fun z => hi z.1)]
    match i', hi with
    | 0, _ => first | rfl | (simp [cellM, arI, arZ, arQ, bNeed, mArr, nP, nB, nW, pHome, wTown, wBand, wDay, wState, tod, pIns, pFee, pSongs, pFeuds, pEarned, wStart, wLen, wSongs, wTold, wSet, wPrice, wPaid, wLate, bShape, sKey, sEnergy, sMin, sPlayed, rHours, rDrives, pOff, bGiv, sW_1, sW_21, sW_22, sN_1, sN_21, sN_22, sO_1, sO_21, sO_22, mCnt_sW, mCnt_sN, mCnt_sO]; try rfl)
    | 1, _ => first | rfl | (simp [cellM, arI, arZ, arQ, bNeed, mArr, nP, nB, nW, pHome, wTown, wBand, wDay, wState, tod, pIns, pFee, pSongs, pFeuds, pEarned, wStart, wLen, wSongs, wTold, wSet, wPrice, wPaid, wLate, bShape, sKey, sEnergy, sMin, sPlayed, rHours, rDrives, pOff, bGiv, sW_1, sW_21, sW_22, sN_1, sN_21, sN_22, sO_1, sO_21, sO_22, mCnt_sW, mCnt_sN, mCnt_sO]; try rfl)
    | 2, _ => first | rfl | (simp [cellM, arI, arZ, arQ, bNeed, mArr, nP, nB, nW, pHome, wTown, wBand, wDay, wState, tod, pIns, pFee, pSongs, pFeuds, pEarned, wStart, wLen, wSongs, wTold, wSet, wPrice, wPaid, wLate, bShape, sKey, sEnergy, sMin, sPlayed, rHours, rDrives, pOff, bGiv, sW_1, sW_21, sW_22, sN_1, sN_21, sN_22, sO_1, sO_21, sO_22, mCnt_sW, mCnt_sN, mCnt_sO]; try rfl)
    | 3, _ => first | rfl | (simp [cellM, arI, arZ, arQ, bNeed, mArr, nP, nB, nW, pHome, wTown, wBand, wDay, wState, tod, pIns, pFee, pSongs, pFeuds, pEarned, wStart, wLen, wSongs, wTold, wSet, wPrice, wPaid, wLate, bShape, sKey, sEnergy, sMin, sPlayed, rHours, rDrives, pOff, bGiv, sW_1, sW_21, sW_22, sN_1, sN_21, sN_22, sO_1, sO_21, sO_22, mCnt_sW, mCnt_sN, mCnt_sO]; try rfl)
    | 4, _ => first | rfl | (simp [cellM, arI, arZ, arQ, bNeed, mArr, nP, nB, nW, pHome, wTown, wBand, wDay, wState, tod, pIns, pFee, pSongs, pFeuds, pEarned, wStart, wLen, wSongs, wTold, wSet, wPrice, wPaid, wLate, bShape, sKey, sEnergy, sMin, sPlayed, rHours, rDrives, pOff, bGiv, sW_1, sW_21, sW_22, sN_1, sN_21, sN_22, sO_1, sO_21, sO_22, mCnt_sW, mCnt_sN, mCnt_sO]; try rfl)
    | 6, _ => first | rfl | (simp [cellM, arI, arZ, arQ, bNeed, mArr, nP, nB, nW, pHome, wTown, wBand, wDay, wState, tod, pIns, pFee, pSongs, pFeuds, pEarned, wStart, wLen, wSongs, wTold, wSet, wPrice, wPaid, wLate, bShape, sKey, sEnergy, sMin, sPlayed, rHours, rDrives, pOff, bGiv, sW_1, sW_21, sW_22, sN_1, sN_21, sN_22, sO_1, sO_21, sO_22, mCnt_sW, mCnt_sN, mCnt_sO]; try rfl)
    | 7, _ => first | rfl | (simp [cellM, arI, arZ, arQ, bNeed, mArr, nP, nB, nW, pHome, wTown, wBand, wDay, wState, tod, pIns, pFee, pSongs, pFeuds, pEarned, wStart, wLen, wSongs, wTold, wSet, wPrice, wPaid, wLate, bShape, sKey, sEnergy, sMin, sPlayed, rHours, rDrives, pOff, bGiv, sW_1, sW_21, sW_22, sN_1, sN_21, sN_22, sO_1, sO_21, sO_22, mCnt_sW, mCnt_sN, mCnt_sO]; try rfl)
    | 8, _ => first | rfl | (simp [cellM, arI, arZ, arQ, bNeed, mArr, nP, nB, nW, pHome, wTown, wBand, wDay, wState, tod, pIns, pFee, pSongs, pFeuds, pEarned, wStart, wLen, wSongs, wTold, wSet, wPrice, wPaid, wLate, bShape, sKey, sEnergy, sMin, sPlayed, rHours, rDrives, pOff, bGiv, sW_1, sW_21, sW_22, sN_1, sN_21, sN_22, sO_1, sO_21, sO_22, mCnt_sW, mCnt_sN, mCnt_sO]; try rfl)
    | 9, _ => first | rfl | (simp [cellM, arI, arZ, arQ, bNeed, mArr, nP, nB, nW, pHome, wTown, wBand, wDay, wState, tod, pIns, pFee, pSongs, pFeuds, pEarned, wStart, wLen, wSongs, wTold, wSet, wPrice, wPaid, wLate, bShape, sKey, sEnergy, sMin, sPlayed, rHours, rDrives, pOff, bGiv, sW_1, sW_21, sW_22, sN_1, sN_21, sN_22, sO_1, sO_21, sO_22, mCnt_sW, mCnt_sN, mCnt_sO]; try rfl)
    | n + 10, _ => rfl

set_option maxHeartbeats 4000000 in
theorem RM.Pw27 {D : va_G} {E : Nat → Nat} {β : Nat → Nat → Nat} {F : Nat → Prop} {σ : St} {th ca : Int32} {sm : Int64} {H H1 : Heap} (h : RM D E β F σ th ca sm H) {k : Nat} (hk : k < nW σ) {v : Int32} (he : va_at D vwCl (β 5 k, .inr (9, [.int (nI (wBand σ k)), .int (nI (wDay σ k)), .int (nI (wTown σ k)), .int (wStart σ k), .int (wLen σ k), .int (wSongs σ k), .int (wTold σ k), .int (nI (wState σ k)), .int (wSet σ k), .int (wPrice σ k), .int v, .int (wPaid σ k)])) H1) (hq : ∀ q, q ≠ β 5 k → H1[q]? = H[q]?) : RM D E β F (sW σ 27 k v) th ca sm H1 := by
  obtain ⟨h1, h0, γ, h2, h3⟩ := h
  refine ⟨h1, h0, γ, ⟨fun a ha => by rw [mCnt_sW]; exact h2.1 a ha, h2.2⟩, h3.put (i := 5) (j := k) (e0 := _) (if_pos hk) he hq (fun i' j' => ?_)⟩
  by_cases hi : i' = 5
  · subst hi
    by_cases hj : j' = k
    · subst hj
      rw [if_pos ⟨rfl, rfl⟩]
      simp [cellM, arI, arZ, mArr, nP, nB, nW, pHome, wTown, wBand, wDay, wState, tod, pIns, pFee, pSongs, pFeuds, pEarned, wStart, wLen, wSongs, wTold, wSet, wPrice, wPaid, wLate, bShape, sKey, sEnergy, sMin, sPlayed, rHours, rDrives, pOff, bGiv, sW_1, sW_21, sW_22, sN_1, sN_21, sN_22, sO_1, sO_21, sO_22, hk]
      try rfl
    · rw [if_neg (fun z => hj z.2)]
      simp [cellM, arI, arZ, mArr, nP, nB, nW, pHome, wTown, wBand, wDay, wState, tod, pIns, pFee, pSongs, pFeuds, pEarned, wStart, wLen, wSongs, wTold, wSet, wPrice, wPaid, wLate, bShape, sKey, sEnergy, sMin, sPlayed, rHours, rDrives, pOff, bGiv, sW_1, sW_21, sW_22, sN_1, sN_21, sN_22, sO_1, sO_21, sO_22, hj]
      try rfl
  · rw [if_neg (fun z => hi z.1)]
    match i', hi with
    | 0, _ => first | rfl | (simp [cellM, arI, arZ, arQ, bNeed, mArr, nP, nB, nW, pHome, wTown, wBand, wDay, wState, tod, pIns, pFee, pSongs, pFeuds, pEarned, wStart, wLen, wSongs, wTold, wSet, wPrice, wPaid, wLate, bShape, sKey, sEnergy, sMin, sPlayed, rHours, rDrives, pOff, bGiv, sW_1, sW_21, sW_22, sN_1, sN_21, sN_22, sO_1, sO_21, sO_22, mCnt_sW, mCnt_sN, mCnt_sO]; try rfl)
    | 1, _ => first | rfl | (simp [cellM, arI, arZ, arQ, bNeed, mArr, nP, nB, nW, pHome, wTown, wBand, wDay, wState, tod, pIns, pFee, pSongs, pFeuds, pEarned, wStart, wLen, wSongs, wTold, wSet, wPrice, wPaid, wLate, bShape, sKey, sEnergy, sMin, sPlayed, rHours, rDrives, pOff, bGiv, sW_1, sW_21, sW_22, sN_1, sN_21, sN_22, sO_1, sO_21, sO_22, mCnt_sW, mCnt_sN, mCnt_sO]; try rfl)
    | 2, _ => first | rfl | (simp [cellM, arI, arZ, arQ, bNeed, mArr, nP, nB, nW, pHome, wTown, wBand, wDay, wState, tod, pIns, pFee, pSongs, pFeuds, pEarned, wStart, wLen, wSongs, wTold, wSet, wPrice, wPaid, wLate, bShape, sKey, sEnergy, sMin, sPlayed, rHours, rDrives, pOff, bGiv, sW_1, sW_21, sW_22, sN_1, sN_21, sN_22, sO_1, sO_21, sO_22, mCnt_sW, mCnt_sN, mCnt_sO]; try rfl)
    | 3, _ => first | rfl | (simp [cellM, arI, arZ, arQ, bNeed, mArr, nP, nB, nW, pHome, wTown, wBand, wDay, wState, tod, pIns, pFee, pSongs, pFeuds, pEarned, wStart, wLen, wSongs, wTold, wSet, wPrice, wPaid, wLate, bShape, sKey, sEnergy, sMin, sPlayed, rHours, rDrives, pOff, bGiv, sW_1, sW_21, sW_22, sN_1, sN_21, sN_22, sO_1, sO_21, sO_22, mCnt_sW, mCnt_sN, mCnt_sO]; try rfl)
    | 4, _ => first | rfl | (simp [cellM, arI, arZ, arQ, bNeed, mArr, nP, nB, nW, pHome, wTown, wBand, wDay, wState, tod, pIns, pFee, pSongs, pFeuds, pEarned, wStart, wLen, wSongs, wTold, wSet, wPrice, wPaid, wLate, bShape, sKey, sEnergy, sMin, sPlayed, rHours, rDrives, pOff, bGiv, sW_1, sW_21, sW_22, sN_1, sN_21, sN_22, sO_1, sO_21, sO_22, mCnt_sW, mCnt_sN, mCnt_sO]; try rfl)
    | 6, _ => first | rfl | (simp [cellM, arI, arZ, arQ, bNeed, mArr, nP, nB, nW, pHome, wTown, wBand, wDay, wState, tod, pIns, pFee, pSongs, pFeuds, pEarned, wStart, wLen, wSongs, wTold, wSet, wPrice, wPaid, wLate, bShape, sKey, sEnergy, sMin, sPlayed, rHours, rDrives, pOff, bGiv, sW_1, sW_21, sW_22, sN_1, sN_21, sN_22, sO_1, sO_21, sO_22, mCnt_sW, mCnt_sN, mCnt_sO]; try rfl)
    | 7, _ => first | rfl | (simp [cellM, arI, arZ, arQ, bNeed, mArr, nP, nB, nW, pHome, wTown, wBand, wDay, wState, tod, pIns, pFee, pSongs, pFeuds, pEarned, wStart, wLen, wSongs, wTold, wSet, wPrice, wPaid, wLate, bShape, sKey, sEnergy, sMin, sPlayed, rHours, rDrives, pOff, bGiv, sW_1, sW_21, sW_22, sN_1, sN_21, sN_22, sO_1, sO_21, sO_22, mCnt_sW, mCnt_sN, mCnt_sO]; try rfl)
    | 8, _ => first | rfl | (simp [cellM, arI, arZ, arQ, bNeed, mArr, nP, nB, nW, pHome, wTown, wBand, wDay, wState, tod, pIns, pFee, pSongs, pFeuds, pEarned, wStart, wLen, wSongs, wTold, wSet, wPrice, wPaid, wLate, bShape, sKey, sEnergy, sMin, sPlayed, rHours, rDrives, pOff, bGiv, sW_1, sW_21, sW_22, sN_1, sN_21, sN_22, sO_1, sO_21, sO_22, mCnt_sW, mCnt_sN, mCnt_sO]; try rfl)
    | 9, _ => first | rfl | (simp [cellM, arI, arZ, arQ, bNeed, mArr, nP, nB, nW, pHome, wTown, wBand, wDay, wState, tod, pIns, pFee, pSongs, pFeuds, pEarned, wStart, wLen, wSongs, wTold, wSet, wPrice, wPaid, wLate, bShape, sKey, sEnergy, sMin, sPlayed, rHours, rDrives, pOff, bGiv, sW_1, sW_21, sW_22, sN_1, sN_21, sN_22, sO_1, sO_21, sO_22, mCnt_sW, mCnt_sN, mCnt_sO]; try rfl)
    | n + 10, _ => rfl

set_option maxHeartbeats 4000000 in
theorem RM.Pw26 {D : va_G} {E : Nat → Nat} {β : Nat → Nat → Nat} {F : Nat → Prop} {σ : St} {th ca : Int32} {sm : Int64} {H H1 : Heap} (h : RM D E β F σ th ca sm H) {k : Nat} (hk : k < nW σ) {v : Int32} (he : va_at D vwCl (β 5 k, .inr (9, [.int (nI (wBand σ k)), .int (nI (wDay σ k)), .int (nI (wTown σ k)), .int (wStart σ k), .int (wLen σ k), .int (wSongs σ k), .int (wTold σ k), .int (nI (wState σ k)), .int (wSet σ k), .int (wPrice σ k), .int (wLate σ k), .int v])) H1) (hq : ∀ q, q ≠ β 5 k → H1[q]? = H[q]?) : RM D E β F (sW σ 26 k v) th ca sm H1 := by
  obtain ⟨h1, h0, γ, h2, h3⟩ := h
  refine ⟨h1, h0, γ, ⟨fun a ha => by rw [mCnt_sW]; exact h2.1 a ha, h2.2⟩, h3.put (i := 5) (j := k) (e0 := _) (if_pos hk) he hq (fun i' j' => ?_)⟩
  by_cases hi : i' = 5
  · subst hi
    by_cases hj : j' = k
    · subst hj
      rw [if_pos ⟨rfl, rfl⟩]
      simp [cellM, arI, arZ, mArr, nP, nB, nW, pHome, wTown, wBand, wDay, wState, tod, pIns, pFee, pSongs, pFeuds, pEarned, wStart, wLen, wSongs, wTold, wSet, wPrice, wPaid, wLate, bShape, sKey, sEnergy, sMin, sPlayed, rHours, rDrives, pOff, bGiv, sW_1, sW_21, sW_22, sN_1, sN_21, sN_22, sO_1, sO_21, sO_22, hk]
      try rfl
    · rw [if_neg (fun z => hj z.2)]
      simp [cellM, arI, arZ, mArr, nP, nB, nW, pHome, wTown, wBand, wDay, wState, tod, pIns, pFee, pSongs, pFeuds, pEarned, wStart, wLen, wSongs, wTold, wSet, wPrice, wPaid, wLate, bShape, sKey, sEnergy, sMin, sPlayed, rHours, rDrives, pOff, bGiv, sW_1, sW_21, sW_22, sN_1, sN_21, sN_22, sO_1, sO_21, sO_22, hj]
      try rfl
  · rw [if_neg (fun z => hi z.1)]
    match i', hi with
    | 0, _ => first | rfl | (simp [cellM, arI, arZ, arQ, bNeed, mArr, nP, nB, nW, pHome, wTown, wBand, wDay, wState, tod, pIns, pFee, pSongs, pFeuds, pEarned, wStart, wLen, wSongs, wTold, wSet, wPrice, wPaid, wLate, bShape, sKey, sEnergy, sMin, sPlayed, rHours, rDrives, pOff, bGiv, sW_1, sW_21, sW_22, sN_1, sN_21, sN_22, sO_1, sO_21, sO_22, mCnt_sW, mCnt_sN, mCnt_sO]; try rfl)
    | 1, _ => first | rfl | (simp [cellM, arI, arZ, arQ, bNeed, mArr, nP, nB, nW, pHome, wTown, wBand, wDay, wState, tod, pIns, pFee, pSongs, pFeuds, pEarned, wStart, wLen, wSongs, wTold, wSet, wPrice, wPaid, wLate, bShape, sKey, sEnergy, sMin, sPlayed, rHours, rDrives, pOff, bGiv, sW_1, sW_21, sW_22, sN_1, sN_21, sN_22, sO_1, sO_21, sO_22, mCnt_sW, mCnt_sN, mCnt_sO]; try rfl)
    | 2, _ => first | rfl | (simp [cellM, arI, arZ, arQ, bNeed, mArr, nP, nB, nW, pHome, wTown, wBand, wDay, wState, tod, pIns, pFee, pSongs, pFeuds, pEarned, wStart, wLen, wSongs, wTold, wSet, wPrice, wPaid, wLate, bShape, sKey, sEnergy, sMin, sPlayed, rHours, rDrives, pOff, bGiv, sW_1, sW_21, sW_22, sN_1, sN_21, sN_22, sO_1, sO_21, sO_22, mCnt_sW, mCnt_sN, mCnt_sO]; try rfl)
    | 3, _ => first | rfl | (simp [cellM, arI, arZ, arQ, bNeed, mArr, nP, nB, nW, pHome, wTown, wBand, wDay, wState, tod, pIns, pFee, pSongs, pFeuds, pEarned, wStart, wLen, wSongs, wTold, wSet, wPrice, wPaid, wLate, bShape, sKey, sEnergy, sMin, sPlayed, rHours, rDrives, pOff, bGiv, sW_1, sW_21, sW_22, sN_1, sN_21, sN_22, sO_1, sO_21, sO_22, mCnt_sW, mCnt_sN, mCnt_sO]; try rfl)
    | 4, _ => first | rfl | (simp [cellM, arI, arZ, arQ, bNeed, mArr, nP, nB, nW, pHome, wTown, wBand, wDay, wState, tod, pIns, pFee, pSongs, pFeuds, pEarned, wStart, wLen, wSongs, wTold, wSet, wPrice, wPaid, wLate, bShape, sKey, sEnergy, sMin, sPlayed, rHours, rDrives, pOff, bGiv, sW_1, sW_21, sW_22, sN_1, sN_21, sN_22, sO_1, sO_21, sO_22, mCnt_sW, mCnt_sN, mCnt_sO]; try rfl)
    | 6, _ => first | rfl | (simp [cellM, arI, arZ, arQ, bNeed, mArr, nP, nB, nW, pHome, wTown, wBand, wDay, wState, tod, pIns, pFee, pSongs, pFeuds, pEarned, wStart, wLen, wSongs, wTold, wSet, wPrice, wPaid, wLate, bShape, sKey, sEnergy, sMin, sPlayed, rHours, rDrives, pOff, bGiv, sW_1, sW_21, sW_22, sN_1, sN_21, sN_22, sO_1, sO_21, sO_22, mCnt_sW, mCnt_sN, mCnt_sO]; try rfl)
    | 7, _ => first | rfl | (simp [cellM, arI, arZ, arQ, bNeed, mArr, nP, nB, nW, pHome, wTown, wBand, wDay, wState, tod, pIns, pFee, pSongs, pFeuds, pEarned, wStart, wLen, wSongs, wTold, wSet, wPrice, wPaid, wLate, bShape, sKey, sEnergy, sMin, sPlayed, rHours, rDrives, pOff, bGiv, sW_1, sW_21, sW_22, sN_1, sN_21, sN_22, sO_1, sO_21, sO_22, mCnt_sW, mCnt_sN, mCnt_sO]; try rfl)
    | 8, _ => first | rfl | (simp [cellM, arI, arZ, arQ, bNeed, mArr, nP, nB, nW, pHome, wTown, wBand, wDay, wState, tod, pIns, pFee, pSongs, pFeuds, pEarned, wStart, wLen, wSongs, wTold, wSet, wPrice, wPaid, wLate, bShape, sKey, sEnergy, sMin, sPlayed, rHours, rDrives, pOff, bGiv, sW_1, sW_21, sW_22, sN_1, sN_21, sN_22, sO_1, sO_21, sO_22, mCnt_sW, mCnt_sN, mCnt_sO]; try rfl)
    | 9, _ => first | rfl | (simp [cellM, arI, arZ, arQ, bNeed, mArr, nP, nB, nW, pHome, wTown, wBand, wDay, wState, tod, pIns, pFee, pSongs, pFeuds, pEarned, wStart, wLen, wSongs, wTold, wSet, wPrice, wPaid, wLate, bShape, sKey, sEnergy, sMin, sPlayed, rHours, rDrives, pOff, bGiv, sW_1, sW_21, sW_22, sN_1, sN_21, sN_22, sO_1, sO_21, sO_22, mCnt_sW, mCnt_sN, mCnt_sO]; try rfl)
    | n + 10, _ => rfl

set_option maxHeartbeats 4000000 in
theorem RM.Pwst {D : va_G} {E : Nat → Nat} {β : Nat → Nat → Nat} {F : Nat → Prop} {σ : St} {th ca : Int32} {sm : Int64} {H H1 : Heap} (h : RM D E β F σ th ca sm H) {k : Nat} (hk : k < nW σ) {v : Nat} (hv : v < 4) (he : va_at D vwCl (β 5 k, .inr (9, [.int (nI (wBand σ k)), .int (nI (wDay σ k)), .int (nI (wTown σ k)), .int (wStart σ k), .int (wLen σ k), .int (wSongs σ k), .int (wTold σ k), .int (nI v), .int (wSet σ k), .int (wPrice σ k), .int (wLate σ k), .int (wPaid σ k)])) H1) (hq : ∀ q, q ≠ β 5 k → H1[q]? = H[q]?) : RM D E β F (sN σ 5 k v) th ca sm H1 := by
  obtain ⟨h1, h0, γ, h2, h3⟩ := h
  refine ⟨h1.sN5 hv, h0, γ, ⟨fun a ha => by rw [mCnt_sN]; exact h2.1 a ha, h2.2⟩, h3.put (i := 5) (j := k) (e0 := _) (if_pos hk) he hq (fun i' j' => ?_)⟩
  by_cases hi : i' = 5
  · subst hi
    by_cases hj : j' = k
    · subst hj
      rw [if_pos ⟨rfl, rfl⟩]
      simp [cellM, arI, arZ, mArr, nP, nB, nW, pHome, wTown, wBand, wDay, wState, tod, pIns, pFee, pSongs, pFeuds, pEarned, wStart, wLen, wSongs, wTold, wSet, wPrice, wPaid, wLate, bShape, sKey, sEnergy, sMin, sPlayed, rHours, rDrives, pOff, bGiv, sW_1, sW_21, sW_22, sN_1, sN_21, sN_22, sO_1, sO_21, sO_22, hk]
      try rfl
    · rw [if_neg (fun z => hj z.2)]
      simp [cellM, arI, arZ, mArr, nP, nB, nW, pHome, wTown, wBand, wDay, wState, tod, pIns, pFee, pSongs, pFeuds, pEarned, wStart, wLen, wSongs, wTold, wSet, wPrice, wPaid, wLate, bShape, sKey, sEnergy, sMin, sPlayed, rHours, rDrives, pOff, bGiv, sW_1, sW_21, sW_22, sN_1, sN_21, sN_22, sO_1, sO_21, sO_22, hj]
      try rfl
  · rw [if_neg (fun z => hi z.1)]
    match i', hi with
    | 0, _ => first | rfl | (simp [cellM, arI, arZ, arQ, bNeed, mArr, nP, nB, nW, pHome, wTown, wBand, wDay, wState, tod, pIns, pFee, pSongs, pFeuds, pEarned, wStart, wLen, wSongs, wTold, wSet, wPrice, wPaid, wLate, bShape, sKey, sEnergy, sMin, sPlayed, rHours, rDrives, pOff, bGiv, sW_1, sW_21, sW_22, sN_1, sN_21, sN_22, sO_1, sO_21, sO_22, mCnt_sW, mCnt_sN, mCnt_sO]; try rfl)
    | 1, _ => first | rfl | (simp [cellM, arI, arZ, arQ, bNeed, mArr, nP, nB, nW, pHome, wTown, wBand, wDay, wState, tod, pIns, pFee, pSongs, pFeuds, pEarned, wStart, wLen, wSongs, wTold, wSet, wPrice, wPaid, wLate, bShape, sKey, sEnergy, sMin, sPlayed, rHours, rDrives, pOff, bGiv, sW_1, sW_21, sW_22, sN_1, sN_21, sN_22, sO_1, sO_21, sO_22, mCnt_sW, mCnt_sN, mCnt_sO]; try rfl)
    | 2, _ => first | rfl | (simp [cellM, arI, arZ, arQ, bNeed, mArr, nP, nB, nW, pHome, wTown, wBand, wDay, wState, tod, pIns, pFee, pSongs, pFeuds, pEarned, wStart, wLen, wSongs, wTold, wSet, wPrice, wPaid, wLate, bShape, sKey, sEnergy, sMin, sPlayed, rHours, rDrives, pOff, bGiv, sW_1, sW_21, sW_22, sN_1, sN_21, sN_22, sO_1, sO_21, sO_22, mCnt_sW, mCnt_sN, mCnt_sO]; try rfl)
    | 3, _ => first | rfl | (simp [cellM, arI, arZ, arQ, bNeed, mArr, nP, nB, nW, pHome, wTown, wBand, wDay, wState, tod, pIns, pFee, pSongs, pFeuds, pEarned, wStart, wLen, wSongs, wTold, wSet, wPrice, wPaid, wLate, bShape, sKey, sEnergy, sMin, sPlayed, rHours, rDrives, pOff, bGiv, sW_1, sW_21, sW_22, sN_1, sN_21, sN_22, sO_1, sO_21, sO_22, mCnt_sW, mCnt_sN, mCnt_sO]; try rfl)
    | 4, _ => first | rfl | (simp [cellM, arI, arZ, arQ, bNeed, mArr, nP, nB, nW, pHome, wTown, wBand, wDay, wState, tod, pIns, pFee, pSongs, pFeuds, pEarned, wStart, wLen, wSongs, wTold, wSet, wPrice, wPaid, wLate, bShape, sKey, sEnergy, sMin, sPlayed, rHours, rDrives, pOff, bGiv, sW_1, sW_21, sW_22, sN_1, sN_21, sN_22, sO_1, sO_21, sO_22, mCnt_sW, mCnt_sN, mCnt_sO]; try rfl)
    | 6, _ => first | rfl | (simp [cellM, arI, arZ, arQ, bNeed, mArr, nP, nB, nW, pHome, wTown, wBand, wDay, wState, tod, pIns, pFee, pSongs, pFeuds, pEarned, wStart, wLen, wSongs, wTold, wSet, wPrice, wPaid, wLate, bShape, sKey, sEnergy, sMin, sPlayed, rHours, rDrives, pOff, bGiv, sW_1, sW_21, sW_22, sN_1, sN_21, sN_22, sO_1, sO_21, sO_22, mCnt_sW, mCnt_sN, mCnt_sO]; try rfl)
    | 7, _ => first | rfl | (simp [cellM, arI, arZ, arQ, bNeed, mArr, nP, nB, nW, pHome, wTown, wBand, wDay, wState, tod, pIns, pFee, pSongs, pFeuds, pEarned, wStart, wLen, wSongs, wTold, wSet, wPrice, wPaid, wLate, bShape, sKey, sEnergy, sMin, sPlayed, rHours, rDrives, pOff, bGiv, sW_1, sW_21, sW_22, sN_1, sN_21, sN_22, sO_1, sO_21, sO_22, mCnt_sW, mCnt_sN, mCnt_sO]; try rfl)
    | 8, _ => first | rfl | (simp [cellM, arI, arZ, arQ, bNeed, mArr, nP, nB, nW, pHome, wTown, wBand, wDay, wState, tod, pIns, pFee, pSongs, pFeuds, pEarned, wStart, wLen, wSongs, wTold, wSet, wPrice, wPaid, wLate, bShape, sKey, sEnergy, sMin, sPlayed, rHours, rDrives, pOff, bGiv, sW_1, sW_21, sW_22, sN_1, sN_21, sN_22, sO_1, sO_21, sO_22, mCnt_sW, mCnt_sN, mCnt_sO]; try rfl)
    | 9, _ => first | rfl | (simp [cellM, arI, arZ, arQ, bNeed, mArr, nP, nB, nW, pHome, wTown, wBand, wDay, wState, tod, pIns, pFee, pSongs, pFeuds, pEarned, wStart, wLen, wSongs, wTold, wSet, wPrice, wPaid, wLate, bShape, sKey, sEnergy, sMin, sPlayed, rHours, rDrives, pOff, bGiv, sW_1, sW_21, sW_22, sN_1, sN_21, sN_22, sO_1, sO_21, sO_22, mCnt_sW, mCnt_sN, mCnt_sO]; try rfl)
    | n + 10, _ => rfl

set_option maxHeartbeats 4000000 in
theorem RM.Ptod {D : va_G} {E : Nat → Nat} {β : Nat → Nat → Nat} {F : Nat → Prop} {σ : St} {th ca : Int32} {sm : Int64} {H H1 : Heap} (h : RM D E β F σ th ca sm H) {v : Int32} (he : va_at D vwCl (β 0 0, .inr (3, [.int th, .int v, .int ca, .ref (β 1 0), .ref (β 1 1), .ref (β 1 2), .ref (β 8 0), .ref (β 8 1), .ref (β 8 2), .ref (β 8 3), .ref (β 8 4), .ref (β 8 5), .long sm])) H1) (hq : ∀ q, q ≠ β 0 0 → H1[q]? = H[q]?) : RM D E β F (sW σ 0 0 v) th ca sm H1 := by
  obtain ⟨h1, h0, γ, h2, h3⟩ := h
  refine ⟨h1, h0, γ, ⟨fun a ha => by rw [mCnt_sW]; exact h2.1 a ha, h2.2⟩, h3.put (i := 0) (j := 0) (e0 := _) rfl he hq (fun i' j' => ?_)⟩
  by_cases hi : i' = 0
  · subst hi
    by_cases hj : j' = 0
    · subst hj
      rw [if_pos ⟨rfl, rfl⟩]
      simp [cellM, arI, arZ, mArr, nP, nB, nW, pHome, wTown, wBand, wDay, wState, tod, pIns, pFee, pSongs, pFeuds, pEarned, wStart, wLen, wSongs, wTold, wSet, wPrice, wPaid, wLate, bShape, sKey, sEnergy, sMin, sPlayed, rHours, rDrives, pOff, bGiv, sW_1, sW_21, sW_22, sN_1, sN_21, sN_22, sO_1, sO_21, sO_22, ]
      try rfl
    · rw [if_neg (fun z => hj z.2)]
      simp [cellM, arI, arZ, mArr, nP, nB, nW, pHome, wTown, wBand, wDay, wState, tod, pIns, pFee, pSongs, pFeuds, pEarned, wStart, wLen, wSongs, wTold, wSet, wPrice, wPaid, wLate, bShape, sKey, sEnergy, sMin, sPlayed, rHours, rDrives, pOff, bGiv, sW_1, sW_21, sW_22, sN_1, sN_21, sN_22, sO_1, sO_21, sO_22, hj]
      try rfl
  · rw [if_neg (fun z => hi z.1)]
    match i', hi with
    | 1, _ => first | rfl | (simp [cellM, arI, arZ, arQ, bNeed, mArr, nP, nB, nW, pHome, wTown, wBand, wDay, wState, tod, pIns, pFee, pSongs, pFeuds, pEarned, wStart, wLen, wSongs, wTold, wSet, wPrice, wPaid, wLate, bShape, sKey, sEnergy, sMin, sPlayed, rHours, rDrives, pOff, bGiv, sW_1, sW_21, sW_22, sN_1, sN_21, sN_22, sO_1, sO_21, sO_22, mCnt_sW, mCnt_sN, mCnt_sO]; try rfl)
    | 2, _ => first | rfl | (simp [cellM, arI, arZ, arQ, bNeed, mArr, nP, nB, nW, pHome, wTown, wBand, wDay, wState, tod, pIns, pFee, pSongs, pFeuds, pEarned, wStart, wLen, wSongs, wTold, wSet, wPrice, wPaid, wLate, bShape, sKey, sEnergy, sMin, sPlayed, rHours, rDrives, pOff, bGiv, sW_1, sW_21, sW_22, sN_1, sN_21, sN_22, sO_1, sO_21, sO_22, mCnt_sW, mCnt_sN, mCnt_sO]; try rfl)
    | 3, _ => first | rfl | (simp [cellM, arI, arZ, arQ, bNeed, mArr, nP, nB, nW, pHome, wTown, wBand, wDay, wState, tod, pIns, pFee, pSongs, pFeuds, pEarned, wStart, wLen, wSongs, wTold, wSet, wPrice, wPaid, wLate, bShape, sKey, sEnergy, sMin, sPlayed, rHours, rDrives, pOff, bGiv, sW_1, sW_21, sW_22, sN_1, sN_21, sN_22, sO_1, sO_21, sO_22, mCnt_sW, mCnt_sN, mCnt_sO]; try rfl)
    | 4, _ => first | rfl | (simp [cellM, arI, arZ, arQ, bNeed, mArr, nP, nB, nW, pHome, wTown, wBand, wDay, wState, tod, pIns, pFee, pSongs, pFeuds, pEarned, wStart, wLen, wSongs, wTold, wSet, wPrice, wPaid, wLate, bShape, sKey, sEnergy, sMin, sPlayed, rHours, rDrives, pOff, bGiv, sW_1, sW_21, sW_22, sN_1, sN_21, sN_22, sO_1, sO_21, sO_22, mCnt_sW, mCnt_sN, mCnt_sO]; try rfl)
    | 5, _ => first | rfl | (simp [cellM, arI, arZ, arQ, bNeed, mArr, nP, nB, nW, pHome, wTown, wBand, wDay, wState, tod, pIns, pFee, pSongs, pFeuds, pEarned, wStart, wLen, wSongs, wTold, wSet, wPrice, wPaid, wLate, bShape, sKey, sEnergy, sMin, sPlayed, rHours, rDrives, pOff, bGiv, sW_1, sW_21, sW_22, sN_1, sN_21, sN_22, sO_1, sO_21, sO_22, mCnt_sW, mCnt_sN, mCnt_sO]; try rfl)
    | 6, _ => first | rfl | (simp [cellM, arI, arZ, arQ, bNeed, mArr, nP, nB, nW, pHome, wTown, wBand, wDay, wState, tod, pIns, pFee, pSongs, pFeuds, pEarned, wStart, wLen, wSongs, wTold, wSet, wPrice, wPaid, wLate, bShape, sKey, sEnergy, sMin, sPlayed, rHours, rDrives, pOff, bGiv, sW_1, sW_21, sW_22, sN_1, sN_21, sN_22, sO_1, sO_21, sO_22, mCnt_sW, mCnt_sN, mCnt_sO]; try rfl)
    | 7, _ => first | rfl | (simp [cellM, arI, arZ, arQ, bNeed, mArr, nP, nB, nW, pHome, wTown, wBand, wDay, wState, tod, pIns, pFee, pSongs, pFeuds, pEarned, wStart, wLen, wSongs, wTold, wSet, wPrice, wPaid, wLate, bShape, sKey, sEnergy, sMin, sPlayed, rHours, rDrives, pOff, bGiv, sW_1, sW_21, sW_22, sN_1, sN_21, sN_22, sO_1, sO_21, sO_22, mCnt_sW, mCnt_sN, mCnt_sO]; try rfl)
    | 8, _ => first | rfl | (simp [cellM, arI, arZ, arQ, bNeed, mArr, nP, nB, nW, pHome, wTown, wBand, wDay, wState, tod, pIns, pFee, pSongs, pFeuds, pEarned, wStart, wLen, wSongs, wTold, wSet, wPrice, wPaid, wLate, bShape, sKey, sEnergy, sMin, sPlayed, rHours, rDrives, pOff, bGiv, sW_1, sW_21, sW_22, sN_1, sN_21, sN_22, sO_1, sO_21, sO_22, mCnt_sW, mCnt_sN, mCnt_sO]; try rfl)
    | 9, _ => first | rfl | (simp [cellM, arI, arZ, arQ, bNeed, mArr, nP, nB, nW, pHome, wTown, wBand, wDay, wState, tod, pIns, pFee, pSongs, pFeuds, pEarned, wStart, wLen, wSongs, wTold, wSet, wPrice, wPaid, wLate, bShape, sKey, sEnergy, sMin, sPlayed, rHours, rDrives, pOff, bGiv, sW_1, sW_21, sW_22, sN_1, sN_21, sN_22, sO_1, sO_21, sO_22, mCnt_sW, mCnt_sN, mCnt_sO]; try rfl)
    | n + 10, _ => rfl

set_option maxHeartbeats 4000000 in
theorem RM.Pth {D : va_G} {E : Nat → Nat} {β : Nat → Nat → Nat} {F : Nat → Prop} {σ : St} {th ca : Int32} {sm : Int64} {H H1 : Heap} (h : RM D E β F σ th ca sm H) {v : Int32} (he : va_at D vwCl (β 0 0, .inr (3, [.int v, .int (tod σ), .int ca, .ref (β 1 0), .ref (β 1 1), .ref (β 1 2), .ref (β 8 0), .ref (β 8 1), .ref (β 8 2), .ref (β 8 3), .ref (β 8 4), .ref (β 8 5), .long sm])) H1) (hq : ∀ q, q ≠ β 0 0 → H1[q]? = H[q]?) : RM D E β F σ v ca sm H1 := by
  obtain ⟨h1, h0, γ, h2, h3⟩ := h
  refine ⟨h1, h0, γ, h2, h3.put (i := 0) (j := 0) (e0 := _) rfl he hq (fun i' j' => ?_)⟩
  by_cases hi : i' = 0
  · subst hi
    by_cases hj : j' = 0
    · subst hj
      rw [if_pos ⟨rfl, rfl⟩]
      simp [cellM, arI, arZ, mArr, nP, nB, nW, pHome, wTown, wBand, wDay, wState, tod, pIns, pFee, pSongs, pFeuds, pEarned, wStart, wLen, wSongs, wTold, wSet, wPrice, wPaid, wLate, bShape, sKey, sEnergy, sMin, sPlayed, rHours, rDrives, pOff, bGiv, sW_1, sW_21, sW_22, sN_1, sN_21, sN_22, sO_1, sO_21, sO_22, ]
      try rfl
    · rw [if_neg (fun z => hj z.2)]
      simp [cellM, arI, arZ, mArr, nP, nB, nW, pHome, wTown, wBand, wDay, wState, tod, pIns, pFee, pSongs, pFeuds, pEarned, wStart, wLen, wSongs, wTold, wSet, wPrice, wPaid, wLate, bShape, sKey, sEnergy, sMin, sPlayed, rHours, rDrives, pOff, bGiv, sW_1, sW_21, sW_22, sN_1, sN_21, sN_22, sO_1, sO_21, sO_22, hj]
      try rfl
  · rw [if_neg (fun z => hi z.1)]
    match i', hi with
    | 1, _ => first | rfl | (simp [cellM, arI, arZ, arQ, bNeed, mArr, nP, nB, nW, pHome, wTown, wBand, wDay, wState, tod, pIns, pFee, pSongs, pFeuds, pEarned, wStart, wLen, wSongs, wTold, wSet, wPrice, wPaid, wLate, bShape, sKey, sEnergy, sMin, sPlayed, rHours, rDrives, pOff, bGiv, sW_1, sW_21, sW_22, sN_1, sN_21, sN_22, sO_1, sO_21, sO_22, mCnt_sW, mCnt_sN, mCnt_sO]; try rfl)
    | 2, _ => first | rfl | (simp [cellM, arI, arZ, arQ, bNeed, mArr, nP, nB, nW, pHome, wTown, wBand, wDay, wState, tod, pIns, pFee, pSongs, pFeuds, pEarned, wStart, wLen, wSongs, wTold, wSet, wPrice, wPaid, wLate, bShape, sKey, sEnergy, sMin, sPlayed, rHours, rDrives, pOff, bGiv, sW_1, sW_21, sW_22, sN_1, sN_21, sN_22, sO_1, sO_21, sO_22, mCnt_sW, mCnt_sN, mCnt_sO]; try rfl)
    | 3, _ => first | rfl | (simp [cellM, arI, arZ, arQ, bNeed, mArr, nP, nB, nW, pHome, wTown, wBand, wDay, wState, tod, pIns, pFee, pSongs, pFeuds, pEarned, wStart, wLen, wSongs, wTold, wSet, wPrice, wPaid, wLate, bShape, sKey, sEnergy, sMin, sPlayed, rHours, rDrives, pOff, bGiv, sW_1, sW_21, sW_22, sN_1, sN_21, sN_22, sO_1, sO_21, sO_22, mCnt_sW, mCnt_sN, mCnt_sO]; try rfl)
    | 4, _ => first | rfl | (simp [cellM, arI, arZ, arQ, bNeed, mArr, nP, nB, nW, pHome, wTown, wBand, wDay, wState, tod, pIns, pFee, pSongs, pFeuds, pEarned, wStart, wLen, wSongs, wTold, wSet, wPrice, wPaid, wLate, bShape, sKey, sEnergy, sMin, sPlayed, rHours, rDrives, pOff, bGiv, sW_1, sW_21, sW_22, sN_1, sN_21, sN_22, sO_1, sO_21, sO_22, mCnt_sW, mCnt_sN, mCnt_sO]; try rfl)
    | 5, _ => first | rfl | (simp [cellM, arI, arZ, arQ, bNeed, mArr, nP, nB, nW, pHome, wTown, wBand, wDay, wState, tod, pIns, pFee, pSongs, pFeuds, pEarned, wStart, wLen, wSongs, wTold, wSet, wPrice, wPaid, wLate, bShape, sKey, sEnergy, sMin, sPlayed, rHours, rDrives, pOff, bGiv, sW_1, sW_21, sW_22, sN_1, sN_21, sN_22, sO_1, sO_21, sO_22, mCnt_sW, mCnt_sN, mCnt_sO]; try rfl)
    | 6, _ => first | rfl | (simp [cellM, arI, arZ, arQ, bNeed, mArr, nP, nB, nW, pHome, wTown, wBand, wDay, wState, tod, pIns, pFee, pSongs, pFeuds, pEarned, wStart, wLen, wSongs, wTold, wSet, wPrice, wPaid, wLate, bShape, sKey, sEnergy, sMin, sPlayed, rHours, rDrives, pOff, bGiv, sW_1, sW_21, sW_22, sN_1, sN_21, sN_22, sO_1, sO_21, sO_22, mCnt_sW, mCnt_sN, mCnt_sO]; try rfl)
    | 7, _ => first | rfl | (simp [cellM, arI, arZ, arQ, bNeed, mArr, nP, nB, nW, pHome, wTown, wBand, wDay, wState, tod, pIns, pFee, pSongs, pFeuds, pEarned, wStart, wLen, wSongs, wTold, wSet, wPrice, wPaid, wLate, bShape, sKey, sEnergy, sMin, sPlayed, rHours, rDrives, pOff, bGiv, sW_1, sW_21, sW_22, sN_1, sN_21, sN_22, sO_1, sO_21, sO_22, mCnt_sW, mCnt_sN, mCnt_sO]; try rfl)
    | 8, _ => first | rfl | (simp [cellM, arI, arZ, arQ, bNeed, mArr, nP, nB, nW, pHome, wTown, wBand, wDay, wState, tod, pIns, pFee, pSongs, pFeuds, pEarned, wStart, wLen, wSongs, wTold, wSet, wPrice, wPaid, wLate, bShape, sKey, sEnergy, sMin, sPlayed, rHours, rDrives, pOff, bGiv, sW_1, sW_21, sW_22, sN_1, sN_21, sN_22, sO_1, sO_21, sO_22, mCnt_sW, mCnt_sN, mCnt_sO]; try rfl)
    | 9, _ => first | rfl | (simp [cellM, arI, arZ, arQ, bNeed, mArr, nP, nB, nW, pHome, wTown, wBand, wDay, wState, tod, pIns, pFee, pSongs, pFeuds, pEarned, wStart, wLen, wSongs, wTold, wSet, wPrice, wPaid, wLate, bShape, sKey, sEnergy, sMin, sPlayed, rHours, rDrives, pOff, bGiv, sW_1, sW_21, sW_22, sN_1, sN_21, sN_22, sO_1, sO_21, sO_22, mCnt_sW, mCnt_sN, mCnt_sO]; try rfl)
    | n + 10, _ => rfl

set_option maxHeartbeats 4000000 in
theorem RM.Pca {D : va_G} {E : Nat → Nat} {β : Nat → Nat → Nat} {F : Nat → Prop} {σ : St} {th ca : Int32} {sm : Int64} {H H1 : Heap} (h : RM D E β F σ th ca sm H) {v : Int32} (he : va_at D vwCl (β 0 0, .inr (3, [.int th, .int (tod σ), .int v, .ref (β 1 0), .ref (β 1 1), .ref (β 1 2), .ref (β 8 0), .ref (β 8 1), .ref (β 8 2), .ref (β 8 3), .ref (β 8 4), .ref (β 8 5), .long sm])) H1) (hq : ∀ q, q ≠ β 0 0 → H1[q]? = H[q]?) : RM D E β F σ th v sm H1 := by
  obtain ⟨h1, h0, γ, h2, h3⟩ := h
  refine ⟨h1, h0, γ, h2, h3.put (i := 0) (j := 0) (e0 := _) rfl he hq (fun i' j' => ?_)⟩
  by_cases hi : i' = 0
  · subst hi
    by_cases hj : j' = 0
    · subst hj
      rw [if_pos ⟨rfl, rfl⟩]
      simp [cellM, arI, arZ, mArr, nP, nB, nW, pHome, wTown, wBand, wDay, wState, tod, pIns, pFee, pSongs, pFeuds, pEarned, wStart, wLen, wSongs, wTold, wSet, wPrice, wPaid, wLate, bShape, sKey, sEnergy, sMin, sPlayed, rHours, rDrives, pOff, bGiv, sW_1, sW_21, sW_22, sN_1, sN_21, sN_22, sO_1, sO_21, sO_22, ]
      try rfl
    · rw [if_neg (fun z => hj z.2)]
      simp [cellM, arI, arZ, mArr, nP, nB, nW, pHome, wTown, wBand, wDay, wState, tod, pIns, pFee, pSongs, pFeuds, pEarned, wStart, wLen, wSongs, wTold, wSet, wPrice, wPaid, wLate, bShape, sKey, sEnergy, sMin, sPlayed, rHours, rDrives, pOff, bGiv, sW_1, sW_21, sW_22, sN_1, sN_21, sN_22, sO_1, sO_21, sO_22, hj]
      try rfl
  · rw [if_neg (fun z => hi z.1)]
    match i', hi with
    | 1, _ => first | rfl | (simp [cellM, arI, arZ, arQ, bNeed, mArr, nP, nB, nW, pHome, wTown, wBand, wDay, wState, tod, pIns, pFee, pSongs, pFeuds, pEarned, wStart, wLen, wSongs, wTold, wSet, wPrice, wPaid, wLate, bShape, sKey, sEnergy, sMin, sPlayed, rHours, rDrives, pOff, bGiv, sW_1, sW_21, sW_22, sN_1, sN_21, sN_22, sO_1, sO_21, sO_22, mCnt_sW, mCnt_sN, mCnt_sO]; try rfl)
    | 2, _ => first | rfl | (simp [cellM, arI, arZ, arQ, bNeed, mArr, nP, nB, nW, pHome, wTown, wBand, wDay, wState, tod, pIns, pFee, pSongs, pFeuds, pEarned, wStart, wLen, wSongs, wTold, wSet, wPrice, wPaid, wLate, bShape, sKey, sEnergy, sMin, sPlayed, rHours, rDrives, pOff, bGiv, sW_1, sW_21, sW_22, sN_1, sN_21, sN_22, sO_1, sO_21, sO_22, mCnt_sW, mCnt_sN, mCnt_sO]; try rfl)
    | 3, _ => first | rfl | (simp [cellM, arI, arZ, arQ, bNeed, mArr, nP, nB, nW, pHome, wTown, wBand, wDay, wState, tod, pIns, pFee, pSongs, pFeuds, pEarned, wStart, wLen, wSongs, wTold, wSet, wPrice, wPaid, wLate, bShape, sKey, sEnergy, sMin, sPlayed, rHours, rDrives, pOff, bGiv, sW_1, sW_21, sW_22, sN_1, sN_21, sN_22, sO_1, sO_21, sO_22, mCnt_sW, mCnt_sN, mCnt_sO]; try rfl)
    | 4, _ => first | rfl | (simp [cellM, arI, arZ, arQ, bNeed, mArr, nP, nB, nW, pHome, wTown, wBand, wDay, wState, tod, pIns, pFee, pSongs, pFeuds, pEarned, wStart, wLen, wSongs, wTold, wSet, wPrice, wPaid, wLate, bShape, sKey, sEnergy, sMin, sPlayed, rHours, rDrives, pOff, bGiv, sW_1, sW_21, sW_22, sN_1, sN_21, sN_22, sO_1, sO_21, sO_22, mCnt_sW, mCnt_sN, mCnt_sO]; try rfl)
    | 5, _ => first | rfl | (simp [cellM, arI, arZ, arQ, bNeed, mArr, nP, nB, nW, pHome, wTown, wBand, wDay, wState, tod, pIns, pFee, pSongs, pFeuds, pEarned, wStart, wLen, wSongs, wTold, wSet, wPrice, wPaid, wLate, bShape, sKey, sEnergy, sMin, sPlayed, rHours, rDrives, pOff, bGiv, sW_1, sW_21, sW_22, sN_1, sN_21, sN_22, sO_1, sO_21, sO_22, mCnt_sW, mCnt_sN, mCnt_sO]; try rfl)
    | 6, _ => first | rfl | (simp [cellM, arI, arZ, arQ, bNeed, mArr, nP, nB, nW, pHome, wTown, wBand, wDay, wState, tod, pIns, pFee, pSongs, pFeuds, pEarned, wStart, wLen, wSongs, wTold, wSet, wPrice, wPaid, wLate, bShape, sKey, sEnergy, sMin, sPlayed, rHours, rDrives, pOff, bGiv, sW_1, sW_21, sW_22, sN_1, sN_21, sN_22, sO_1, sO_21, sO_22, mCnt_sW, mCnt_sN, mCnt_sO]; try rfl)
    | 7, _ => first | rfl | (simp [cellM, arI, arZ, arQ, bNeed, mArr, nP, nB, nW, pHome, wTown, wBand, wDay, wState, tod, pIns, pFee, pSongs, pFeuds, pEarned, wStart, wLen, wSongs, wTold, wSet, wPrice, wPaid, wLate, bShape, sKey, sEnergy, sMin, sPlayed, rHours, rDrives, pOff, bGiv, sW_1, sW_21, sW_22, sN_1, sN_21, sN_22, sO_1, sO_21, sO_22, mCnt_sW, mCnt_sN, mCnt_sO]; try rfl)
    | 8, _ => first | rfl | (simp [cellM, arI, arZ, arQ, bNeed, mArr, nP, nB, nW, pHome, wTown, wBand, wDay, wState, tod, pIns, pFee, pSongs, pFeuds, pEarned, wStart, wLen, wSongs, wTold, wSet, wPrice, wPaid, wLate, bShape, sKey, sEnergy, sMin, sPlayed, rHours, rDrives, pOff, bGiv, sW_1, sW_21, sW_22, sN_1, sN_21, sN_22, sO_1, sO_21, sO_22, mCnt_sW, mCnt_sN, mCnt_sO]; try rfl)
    | 9, _ => first | rfl | (simp [cellM, arI, arZ, arQ, bNeed, mArr, nP, nB, nW, pHome, wTown, wBand, wDay, wState, tod, pIns, pFee, pSongs, pFeuds, pEarned, wStart, wLen, wSongs, wTold, wSet, wPrice, wPaid, wLate, bShape, sKey, sEnergy, sMin, sPlayed, rHours, rDrives, pOff, bGiv, sW_1, sW_21, sW_22, sN_1, sN_21, sN_22, sO_1, sO_21, sO_22, mCnt_sW, mCnt_sN, mCnt_sO]; try rfl)
    | n + 10, _ => rfl

set_option maxHeartbeats 4000000 in
theorem RM.Psm {D : va_G} {E : Nat → Nat} {β : Nat → Nat → Nat} {F : Nat → Prop} {σ : St} {th ca : Int32} {sm : Int64} {H H1 : Heap} (h : RM D E β F σ th ca sm H) {v : Int64} (he : va_at D vwCl (β 0 0, .inr (3, [.int th, .int (tod σ), .int ca, .ref (β 1 0), .ref (β 1 1), .ref (β 1 2), .ref (β 8 0), .ref (β 8 1), .ref (β 8 2), .ref (β 8 3), .ref (β 8 4), .ref (β 8 5), .long v])) H1) (hq : ∀ q, q ≠ β 0 0 → H1[q]? = H[q]?) : RM D E β F σ th ca v H1 := by
  obtain ⟨h1, h0, γ, h2, h3⟩ := h
  refine ⟨h1, h0, γ, h2, h3.put (i := 0) (j := 0) (e0 := _) rfl he hq (fun i' j' => ?_)⟩
  by_cases hi : i' = 0
  · subst hi
    by_cases hj : j' = 0
    · subst hj
      rw [if_pos ⟨rfl, rfl⟩]
      simp [cellM, arI, arZ, mArr, nP, nB, nW, pHome, wTown, wBand, wDay, wState, tod, pIns, pFee, pSongs, pFeuds, pEarned, wStart, wLen, wSongs, wTold, wSet, wPrice, wPaid, wLate, bShape, sKey, sEnergy, sMin, sPlayed, rHours, rDrives, pOff, bGiv, sW_1, sW_21, sW_22, sN_1, sN_21, sN_22, sO_1, sO_21, sO_22, ]
      try rfl
    · rw [if_neg (fun z => hj z.2)]
      simp [cellM, arI, arZ, mArr, nP, nB, nW, pHome, wTown, wBand, wDay, wState, tod, pIns, pFee, pSongs, pFeuds, pEarned, wStart, wLen, wSongs, wTold, wSet, wPrice, wPaid, wLate, bShape, sKey, sEnergy, sMin, sPlayed, rHours, rDrives, pOff, bGiv, sW_1, sW_21, sW_22, sN_1, sN_21, sN_22, sO_1, sO_21, sO_22, hj]
      try rfl
  · rw [if_neg (fun z => hi z.1)]
    match i', hi with
    | 1, _ => first | rfl | (simp [cellM, arI, arZ, arQ, bNeed, mArr, nP, nB, nW, pHome, wTown, wBand, wDay, wState, tod, pIns, pFee, pSongs, pFeuds, pEarned, wStart, wLen, wSongs, wTold, wSet, wPrice, wPaid, wLate, bShape, sKey, sEnergy, sMin, sPlayed, rHours, rDrives, pOff, bGiv, sW_1, sW_21, sW_22, sN_1, sN_21, sN_22, sO_1, sO_21, sO_22, mCnt_sW, mCnt_sN, mCnt_sO]; try rfl)
    | 2, _ => first | rfl | (simp [cellM, arI, arZ, arQ, bNeed, mArr, nP, nB, nW, pHome, wTown, wBand, wDay, wState, tod, pIns, pFee, pSongs, pFeuds, pEarned, wStart, wLen, wSongs, wTold, wSet, wPrice, wPaid, wLate, bShape, sKey, sEnergy, sMin, sPlayed, rHours, rDrives, pOff, bGiv, sW_1, sW_21, sW_22, sN_1, sN_21, sN_22, sO_1, sO_21, sO_22, mCnt_sW, mCnt_sN, mCnt_sO]; try rfl)
    | 3, _ => first | rfl | (simp [cellM, arI, arZ, arQ, bNeed, mArr, nP, nB, nW, pHome, wTown, wBand, wDay, wState, tod, pIns, pFee, pSongs, pFeuds, pEarned, wStart, wLen, wSongs, wTold, wSet, wPrice, wPaid, wLate, bShape, sKey, sEnergy, sMin, sPlayed, rHours, rDrives, pOff, bGiv, sW_1, sW_21, sW_22, sN_1, sN_21, sN_22, sO_1, sO_21, sO_22, mCnt_sW, mCnt_sN, mCnt_sO]; try rfl)
    | 4, _ => first | rfl | (simp [cellM, arI, arZ, arQ, bNeed, mArr, nP, nB, nW, pHome, wTown, wBand, wDay, wState, tod, pIns, pFee, pSongs, pFeuds, pEarned, wStart, wLen, wSongs, wTold, wSet, wPrice, wPaid, wLate, bShape, sKey, sEnergy, sMin, sPlayed, rHours, rDrives, pOff, bGiv, sW_1, sW_21, sW_22, sN_1, sN_21, sN_22, sO_1, sO_21, sO_22, mCnt_sW, mCnt_sN, mCnt_sO]; try rfl)
    | 5, _ => first | rfl | (simp [cellM, arI, arZ, arQ, bNeed, mArr, nP, nB, nW, pHome, wTown, wBand, wDay, wState, tod, pIns, pFee, pSongs, pFeuds, pEarned, wStart, wLen, wSongs, wTold, wSet, wPrice, wPaid, wLate, bShape, sKey, sEnergy, sMin, sPlayed, rHours, rDrives, pOff, bGiv, sW_1, sW_21, sW_22, sN_1, sN_21, sN_22, sO_1, sO_21, sO_22, mCnt_sW, mCnt_sN, mCnt_sO]; try rfl)
    | 6, _ => first | rfl | (simp [cellM, arI, arZ, arQ, bNeed, mArr, nP, nB, nW, pHome, wTown, wBand, wDay, wState, tod, pIns, pFee, pSongs, pFeuds, pEarned, wStart, wLen, wSongs, wTold, wSet, wPrice, wPaid, wLate, bShape, sKey, sEnergy, sMin, sPlayed, rHours, rDrives, pOff, bGiv, sW_1, sW_21, sW_22, sN_1, sN_21, sN_22, sO_1, sO_21, sO_22, mCnt_sW, mCnt_sN, mCnt_sO]; try rfl)
    | 7, _ => first | rfl | (simp [cellM, arI, arZ, arQ, bNeed, mArr, nP, nB, nW, pHome, wTown, wBand, wDay, wState, tod, pIns, pFee, pSongs, pFeuds, pEarned, wStart, wLen, wSongs, wTold, wSet, wPrice, wPaid, wLate, bShape, sKey, sEnergy, sMin, sPlayed, rHours, rDrives, pOff, bGiv, sW_1, sW_21, sW_22, sN_1, sN_21, sN_22, sO_1, sO_21, sO_22, mCnt_sW, mCnt_sN, mCnt_sO]; try rfl)
    | 8, _ => first | rfl | (simp [cellM, arI, arZ, arQ, bNeed, mArr, nP, nB, nW, pHome, wTown, wBand, wDay, wState, tod, pIns, pFee, pSongs, pFeuds, pEarned, wStart, wLen, wSongs, wTold, wSet, wPrice, wPaid, wLate, bShape, sKey, sEnergy, sMin, sPlayed, rHours, rDrives, pOff, bGiv, sW_1, sW_21, sW_22, sN_1, sN_21, sN_22, sO_1, sO_21, sO_22, mCnt_sW, mCnt_sN, mCnt_sO]; try rfl)
    | 9, _ => first | rfl | (simp [cellM, arI, arZ, arQ, bNeed, mArr, nP, nB, nW, pHome, wTown, wBand, wDay, wState, tod, pIns, pFee, pSongs, pFeuds, pEarned, wStart, wLen, wSongs, wTold, wSet, wPrice, wPaid, wLate, bShape, sKey, sEnergy, sMin, sPlayed, rHours, rDrives, pOff, bGiv, sW_1, sW_21, sW_22, sN_1, sN_21, sN_22, sO_1, sO_21, sO_22, mCnt_sW, mCnt_sN, mCnt_sO]; try rfl)
    | n + 10, _ => rfl

set_option maxHeartbeats 4000000 in
theorem RM.Pof {D : va_G} {E : Nat → Nat} {β : Nat → Nat → Nat} {F : Nat → Prop} {σ : St} {th ca : Int32} {sm : Int64} {H H1 : Heap} (h : RM D E β F σ th ca sm H) {k : Nat} (hk : k < nP σ) {d : Nat} {v : Int32} (he : va_at D vwCl (β 4 k, .inl (E 2, 366, .inl (upd (pOff σ k) d v))) H1) (hq : ∀ q, q ≠ β 4 k → H1[q]? = H[q]?) : RM D E β F (sO σ k d v) th ca sm H1 := by
  obtain ⟨h1, h0, γ, h2, h3⟩ := h
  refine ⟨h1, h0, γ, ⟨fun a ha => by rw [mCnt_sO]; exact h2.1 a ha, h2.2⟩, h3.put (i := 4) (j := k) (e0 := _) (if_pos hk) he hq (fun i' j' => ?_)⟩
  by_cases hi : i' = 4
  · subst hi
    by_cases hj : j' = k
    · subst hj
      rw [if_pos ⟨rfl, rfl⟩]
      simp [cellM, arI, arZ, mArr, nP, nB, nW, pHome, wTown, wBand, wDay, wState, tod, pIns, pFee, pSongs, pFeuds, pEarned, wStart, wLen, wSongs, wTold, wSet, wPrice, wPaid, wLate, bShape, sKey, sEnergy, sMin, sPlayed, rHours, rDrives, pOff, bGiv, sW_1, sW_21, sW_22, sN_1, sN_21, sN_22, sO_1, sO_21, sO_22, hk]
      funext b; simp [upd, nP, nB, nW, pHome, wTown, wBand, wDay, wState, tod, pIns, pFee, pSongs, pFeuds, pEarned, wStart, wLen, wSongs, wTold, wSet, wPrice, wPaid, wLate, bShape, sKey, sEnergy, sMin, sPlayed, rHours, rDrives, pOff, bGiv, sW_1, sW_21, sW_22, sN_1, sN_21, sN_22, sO_1, sO_21, sO_22]
    · rw [if_neg (fun z => hj z.2)]
      have e9 : pOff (sO σ k d v) j' = pOff σ j' := by funext b; simp [pOff, sO_22, hj]
      simp [cellM, arI, arZ, mArr, nP, nB, nW, pHome, wTown, wBand, wDay, wState, tod, pIns, pFee, pSongs, pFeuds, pEarned, wStart, wLen, wSongs, wTold, wSet, wPrice, wPaid, wLate, bShape, sKey, sEnergy, sMin, sPlayed, rHours, rDrives, pOff, bGiv, sW_1, sW_21, sW_22, sN_1, sN_21, sN_22, sO_1, sO_21, sO_22, hj, e9]
      try rfl
  · rw [if_neg (fun z => hi z.1)]
    match i', hi with
    | 0, _ => first | rfl | (simp [cellM, arI, arZ, arQ, bNeed, mArr, nP, nB, nW, pHome, wTown, wBand, wDay, wState, tod, pIns, pFee, pSongs, pFeuds, pEarned, wStart, wLen, wSongs, wTold, wSet, wPrice, wPaid, wLate, bShape, sKey, sEnergy, sMin, sPlayed, rHours, rDrives, pOff, bGiv, sW_1, sW_21, sW_22, sN_1, sN_21, sN_22, sO_1, sO_21, sO_22, mCnt_sW, mCnt_sN, mCnt_sO]; try rfl)
    | 1, _ => first | rfl | (simp [cellM, arI, arZ, arQ, bNeed, mArr, nP, nB, nW, pHome, wTown, wBand, wDay, wState, tod, pIns, pFee, pSongs, pFeuds, pEarned, wStart, wLen, wSongs, wTold, wSet, wPrice, wPaid, wLate, bShape, sKey, sEnergy, sMin, sPlayed, rHours, rDrives, pOff, bGiv, sW_1, sW_21, sW_22, sN_1, sN_21, sN_22, sO_1, sO_21, sO_22, mCnt_sW, mCnt_sN, mCnt_sO]; try rfl)
    | 2, _ => first | rfl | (simp [cellM, arI, arZ, arQ, bNeed, mArr, nP, nB, nW, pHome, wTown, wBand, wDay, wState, tod, pIns, pFee, pSongs, pFeuds, pEarned, wStart, wLen, wSongs, wTold, wSet, wPrice, wPaid, wLate, bShape, sKey, sEnergy, sMin, sPlayed, rHours, rDrives, pOff, bGiv, sW_1, sW_21, sW_22, sN_1, sN_21, sN_22, sO_1, sO_21, sO_22, mCnt_sW, mCnt_sN, mCnt_sO]; try rfl)
    | 3, _ => first | rfl | (simp [cellM, arI, arZ, arQ, bNeed, mArr, nP, nB, nW, pHome, wTown, wBand, wDay, wState, tod, pIns, pFee, pSongs, pFeuds, pEarned, wStart, wLen, wSongs, wTold, wSet, wPrice, wPaid, wLate, bShape, sKey, sEnergy, sMin, sPlayed, rHours, rDrives, pOff, bGiv, sW_1, sW_21, sW_22, sN_1, sN_21, sN_22, sO_1, sO_21, sO_22, mCnt_sW, mCnt_sN, mCnt_sO]; try rfl)
    | 5, _ => first | rfl | (simp [cellM, arI, arZ, arQ, bNeed, mArr, nP, nB, nW, pHome, wTown, wBand, wDay, wState, tod, pIns, pFee, pSongs, pFeuds, pEarned, wStart, wLen, wSongs, wTold, wSet, wPrice, wPaid, wLate, bShape, sKey, sEnergy, sMin, sPlayed, rHours, rDrives, pOff, bGiv, sW_1, sW_21, sW_22, sN_1, sN_21, sN_22, sO_1, sO_21, sO_22, mCnt_sW, mCnt_sN, mCnt_sO]; try rfl)
    | 6, _ => first | rfl | (simp [cellM, arI, arZ, arQ, bNeed, mArr, nP, nB, nW, pHome, wTown, wBand, wDay, wState, tod, pIns, pFee, pSongs, pFeuds, pEarned, wStart, wLen, wSongs, wTold, wSet, wPrice, wPaid, wLate, bShape, sKey, sEnergy, sMin, sPlayed, rHours, rDrives, pOff, bGiv, sW_1, sW_21, sW_22, sN_1, sN_21, sN_22, sO_1, sO_21, sO_22, mCnt_sW, mCnt_sN, mCnt_sO]; try rfl)
    | 7, _ => first | rfl | (simp [cellM, arI, arZ, arQ, bNeed, mArr, nP, nB, nW, pHome, wTown, wBand, wDay, wState, tod, pIns, pFee, pSongs, pFeuds, pEarned, wStart, wLen, wSongs, wTold, wSet, wPrice, wPaid, wLate, bShape, sKey, sEnergy, sMin, sPlayed, rHours, rDrives, pOff, bGiv, sW_1, sW_21, sW_22, sN_1, sN_21, sN_22, sO_1, sO_21, sO_22, mCnt_sW, mCnt_sN, mCnt_sO]; try rfl)
    | 8, _ => first | rfl | (simp [cellM, arI, arZ, arQ, bNeed, mArr, nP, nB, nW, pHome, wTown, wBand, wDay, wState, tod, pIns, pFee, pSongs, pFeuds, pEarned, wStart, wLen, wSongs, wTold, wSet, wPrice, wPaid, wLate, bShape, sKey, sEnergy, sMin, sPlayed, rHours, rDrives, pOff, bGiv, sW_1, sW_21, sW_22, sN_1, sN_21, sN_22, sO_1, sO_21, sO_22, mCnt_sW, mCnt_sN, mCnt_sO]; try rfl)
    | 9, _ => first | rfl | (simp [cellM, arI, arZ, arQ, bNeed, mArr, nP, nB, nW, pHome, wTown, wBand, wDay, wState, tod, pIns, pFee, pSongs, pFeuds, pEarned, wStart, wLen, wSongs, wTold, wSet, wPrice, wPaid, wLate, bShape, sKey, sEnergy, sMin, sPlayed, rHours, rDrives, pOff, bGiv, sW_1, sW_21, sW_22, sN_1, sN_21, sN_22, sO_1, sO_21, sO_22, mCnt_sW, mCnt_sN, mCnt_sO]; try rfl)
    | n + 10, _ => rfl

set_option maxHeartbeats 4000000 in
theorem RM.Pa30 {D : va_G} {E : Nat → Nat} {β : Nat → Nat → Nat} {F : Nat → Prop} {σ : St} {th ca : Int32} {sm : Int64} {H H1 : Heap} (h : RM D E β F σ th ca sm H) {d : Nat} {v : Int32} (he : va_at D vwCl (β 8 0, .inl (E 1, 16, .inl (upd (sKey σ) d v))) H1) (hq : ∀ q, q ≠ β 8 0 → H1[q]? = H[q]?) : RM D E β F (sW σ 30 d v) th ca sm H1 := by
  obtain ⟨h1, h0, γ, h2, h3⟩ := h
  refine ⟨h1, h0, γ, ⟨fun a ha => by rw [mCnt_sW]; exact h2.1 a ha, h2.2⟩, h3.put (i := 8) (j := 0) (e0 := _) rfl he hq (fun i' j' => ?_)⟩
  by_cases hi : i' = 8
  · subst hi
    by_cases hj : j' = 0
    · subst hj
      rw [if_pos ⟨rfl, rfl⟩]
      simp [cellM, arI, arZ, mArr, nP, nB, nW, pHome, wTown, wBand, wDay, wState, tod, pIns, pFee, pSongs, pFeuds, pEarned, wStart, wLen, wSongs, wTold, wSet, wPrice, wPaid, wLate, bShape, sKey, sEnergy, sMin, sPlayed, rHours, rDrives, pOff, bGiv, sW_1, sW_21, sW_22, sN_1, sN_21, sN_22, sO_1, sO_21, sO_22, ]
      funext b; simp [upd, nP, nB, nW, pHome, wTown, wBand, wDay, wState, tod, pIns, pFee, pSongs, pFeuds, pEarned, wStart, wLen, wSongs, wTold, wSet, wPrice, wPaid, wLate, bShape, sKey, sEnergy, sMin, sPlayed, rHours, rDrives, pOff, bGiv, sW_1, sW_21, sW_22, sN_1, sN_21, sN_22, sO_1, sO_21, sO_22]
    · rw [if_neg (fun z => hj z.2)]
      match j', hj with
      | 0, h9 => first | rfl | exact absurd rfl h9
      | 1, h9 => first | rfl | exact absurd rfl h9
      | 2, h9 => first | rfl | exact absurd rfl h9
      | 3, h9 => first | rfl | exact absurd rfl h9
      | 4, h9 => first | rfl | exact absurd rfl h9
      | 5, h9 => first | rfl | exact absurd rfl h9
      | y + 6, _ => simp only [cellM]; rw [if_neg (by omega), if_neg (by omega), if_neg (by omega), if_neg (by omega)]
  · rw [if_neg (fun z => hi z.1)]
    match i', hi with
    | 0, _ => first | rfl | (simp [cellM, arI, arZ, arQ, bNeed, mArr, nP, nB, nW, pHome, wTown, wBand, wDay, wState, tod, pIns, pFee, pSongs, pFeuds, pEarned, wStart, wLen, wSongs, wTold, wSet, wPrice, wPaid, wLate, bShape, sKey, sEnergy, sMin, sPlayed, rHours, rDrives, pOff, bGiv, sW_1, sW_21, sW_22, sN_1, sN_21, sN_22, sO_1, sO_21, sO_22, mCnt_sW, mCnt_sN, mCnt_sO]; try rfl)
    | 1, _ => first | rfl | (simp [cellM, arI, arZ, arQ, bNeed, mArr, nP, nB, nW, pHome, wTown, wBand, wDay, wState, tod, pIns, pFee, pSongs, pFeuds, pEarned, wStart, wLen, wSongs, wTold, wSet, wPrice, wPaid, wLate, bShape, sKey, sEnergy, sMin, sPlayed, rHours, rDrives, pOff, bGiv, sW_1, sW_21, sW_22, sN_1, sN_21, sN_22, sO_1, sO_21, sO_22, mCnt_sW, mCnt_sN, mCnt_sO]; try rfl)
    | 2, _ => first | rfl | (simp [cellM, arI, arZ, arQ, bNeed, mArr, nP, nB, nW, pHome, wTown, wBand, wDay, wState, tod, pIns, pFee, pSongs, pFeuds, pEarned, wStart, wLen, wSongs, wTold, wSet, wPrice, wPaid, wLate, bShape, sKey, sEnergy, sMin, sPlayed, rHours, rDrives, pOff, bGiv, sW_1, sW_21, sW_22, sN_1, sN_21, sN_22, sO_1, sO_21, sO_22, mCnt_sW, mCnt_sN, mCnt_sO]; try rfl)
    | 3, _ => first | rfl | (simp [cellM, arI, arZ, arQ, bNeed, mArr, nP, nB, nW, pHome, wTown, wBand, wDay, wState, tod, pIns, pFee, pSongs, pFeuds, pEarned, wStart, wLen, wSongs, wTold, wSet, wPrice, wPaid, wLate, bShape, sKey, sEnergy, sMin, sPlayed, rHours, rDrives, pOff, bGiv, sW_1, sW_21, sW_22, sN_1, sN_21, sN_22, sO_1, sO_21, sO_22, mCnt_sW, mCnt_sN, mCnt_sO]; try rfl)
    | 4, _ => first | rfl | (simp [cellM, arI, arZ, arQ, bNeed, mArr, nP, nB, nW, pHome, wTown, wBand, wDay, wState, tod, pIns, pFee, pSongs, pFeuds, pEarned, wStart, wLen, wSongs, wTold, wSet, wPrice, wPaid, wLate, bShape, sKey, sEnergy, sMin, sPlayed, rHours, rDrives, pOff, bGiv, sW_1, sW_21, sW_22, sN_1, sN_21, sN_22, sO_1, sO_21, sO_22, mCnt_sW, mCnt_sN, mCnt_sO]; try rfl)
    | 5, _ => first | rfl | (simp [cellM, arI, arZ, arQ, bNeed, mArr, nP, nB, nW, pHome, wTown, wBand, wDay, wState, tod, pIns, pFee, pSongs, pFeuds, pEarned, wStart, wLen, wSongs, wTold, wSet, wPrice, wPaid, wLate, bShape, sKey, sEnergy, sMin, sPlayed, rHours, rDrives, pOff, bGiv, sW_1, sW_21, sW_22, sN_1, sN_21, sN_22, sO_1, sO_21, sO_22, mCnt_sW, mCnt_sN, mCnt_sO]; try rfl)
    | 6, _ => first | rfl | (simp [cellM, arI, arZ, arQ, bNeed, mArr, nP, nB, nW, pHome, wTown, wBand, wDay, wState, tod, pIns, pFee, pSongs, pFeuds, pEarned, wStart, wLen, wSongs, wTold, wSet, wPrice, wPaid, wLate, bShape, sKey, sEnergy, sMin, sPlayed, rHours, rDrives, pOff, bGiv, sW_1, sW_21, sW_22, sN_1, sN_21, sN_22, sO_1, sO_21, sO_22, mCnt_sW, mCnt_sN, mCnt_sO]; try rfl)
    | 7, _ => first | rfl | (simp [cellM, arI, arZ, arQ, bNeed, mArr, nP, nB, nW, pHome, wTown, wBand, wDay, wState, tod, pIns, pFee, pSongs, pFeuds, pEarned, wStart, wLen, wSongs, wTold, wSet, wPrice, wPaid, wLate, bShape, sKey, sEnergy, sMin, sPlayed, rHours, rDrives, pOff, bGiv, sW_1, sW_21, sW_22, sN_1, sN_21, sN_22, sO_1, sO_21, sO_22, mCnt_sW, mCnt_sN, mCnt_sO]; try rfl)
    | 9, _ => first | rfl | (simp [cellM, arI, arZ, arQ, bNeed, mArr, nP, nB, nW, pHome, wTown, wBand, wDay, wState, tod, pIns, pFee, pSongs, pFeuds, pEarned, wStart, wLen, wSongs, wTold, wSet, wPrice, wPaid, wLate, bShape, sKey, sEnergy, sMin, sPlayed, rHours, rDrives, pOff, bGiv, sW_1, sW_21, sW_22, sN_1, sN_21, sN_22, sO_1, sO_21, sO_22, mCnt_sW, mCnt_sN, mCnt_sO]; try rfl)
    | n + 10, _ => rfl

set_option maxHeartbeats 4000000 in
theorem RM.Pa31 {D : va_G} {E : Nat → Nat} {β : Nat → Nat → Nat} {F : Nat → Prop} {σ : St} {th ca : Int32} {sm : Int64} {H H1 : Heap} (h : RM D E β F σ th ca sm H) {d : Nat} {v : Int32} (he : va_at D vwCl (β 8 1, .inl (E 1, 16, .inl (upd (sEnergy σ) d v))) H1) (hq : ∀ q, q ≠ β 8 1 → H1[q]? = H[q]?) : RM D E β F (sW σ 31 d v) th ca sm H1 := by
  obtain ⟨h1, h0, γ, h2, h3⟩ := h
  refine ⟨h1, h0, γ, ⟨fun a ha => by rw [mCnt_sW]; exact h2.1 a ha, h2.2⟩, h3.put (i := 8) (j := 1) (e0 := _) rfl he hq (fun i' j' => ?_)⟩
  by_cases hi : i' = 8
  · subst hi
    by_cases hj : j' = 1
    · subst hj
      rw [if_pos ⟨rfl, rfl⟩]
      simp [cellM, arI, arZ, mArr, nP, nB, nW, pHome, wTown, wBand, wDay, wState, tod, pIns, pFee, pSongs, pFeuds, pEarned, wStart, wLen, wSongs, wTold, wSet, wPrice, wPaid, wLate, bShape, sKey, sEnergy, sMin, sPlayed, rHours, rDrives, pOff, bGiv, sW_1, sW_21, sW_22, sN_1, sN_21, sN_22, sO_1, sO_21, sO_22, ]
      funext b; simp [upd, nP, nB, nW, pHome, wTown, wBand, wDay, wState, tod, pIns, pFee, pSongs, pFeuds, pEarned, wStart, wLen, wSongs, wTold, wSet, wPrice, wPaid, wLate, bShape, sKey, sEnergy, sMin, sPlayed, rHours, rDrives, pOff, bGiv, sW_1, sW_21, sW_22, sN_1, sN_21, sN_22, sO_1, sO_21, sO_22]
    · rw [if_neg (fun z => hj z.2)]
      match j', hj with
      | 0, h9 => first | rfl | exact absurd rfl h9
      | 1, h9 => first | rfl | exact absurd rfl h9
      | 2, h9 => first | rfl | exact absurd rfl h9
      | 3, h9 => first | rfl | exact absurd rfl h9
      | 4, h9 => first | rfl | exact absurd rfl h9
      | 5, h9 => first | rfl | exact absurd rfl h9
      | y + 6, _ => simp only [cellM]; rw [if_neg (by omega), if_neg (by omega), if_neg (by omega), if_neg (by omega)]
  · rw [if_neg (fun z => hi z.1)]
    match i', hi with
    | 0, _ => first | rfl | (simp [cellM, arI, arZ, arQ, bNeed, mArr, nP, nB, nW, pHome, wTown, wBand, wDay, wState, tod, pIns, pFee, pSongs, pFeuds, pEarned, wStart, wLen, wSongs, wTold, wSet, wPrice, wPaid, wLate, bShape, sKey, sEnergy, sMin, sPlayed, rHours, rDrives, pOff, bGiv, sW_1, sW_21, sW_22, sN_1, sN_21, sN_22, sO_1, sO_21, sO_22, mCnt_sW, mCnt_sN, mCnt_sO]; try rfl)
    | 1, _ => first | rfl | (simp [cellM, arI, arZ, arQ, bNeed, mArr, nP, nB, nW, pHome, wTown, wBand, wDay, wState, tod, pIns, pFee, pSongs, pFeuds, pEarned, wStart, wLen, wSongs, wTold, wSet, wPrice, wPaid, wLate, bShape, sKey, sEnergy, sMin, sPlayed, rHours, rDrives, pOff, bGiv, sW_1, sW_21, sW_22, sN_1, sN_21, sN_22, sO_1, sO_21, sO_22, mCnt_sW, mCnt_sN, mCnt_sO]; try rfl)
    | 2, _ => first | rfl | (simp [cellM, arI, arZ, arQ, bNeed, mArr, nP, nB, nW, pHome, wTown, wBand, wDay, wState, tod, pIns, pFee, pSongs, pFeuds, pEarned, wStart, wLen, wSongs, wTold, wSet, wPrice, wPaid, wLate, bShape, sKey, sEnergy, sMin, sPlayed, rHours, rDrives, pOff, bGiv, sW_1, sW_21, sW_22, sN_1, sN_21, sN_22, sO_1, sO_21, sO_22, mCnt_sW, mCnt_sN, mCnt_sO]; try rfl)
    | 3, _ => first | rfl | (simp [cellM, arI, arZ, arQ, bNeed, mArr, nP, nB, nW, pHome, wTown, wBand, wDay, wState, tod, pIns, pFee, pSongs, pFeuds, pEarned, wStart, wLen, wSongs, wTold, wSet, wPrice, wPaid, wLate, bShape, sKey, sEnergy, sMin, sPlayed, rHours, rDrives, pOff, bGiv, sW_1, sW_21, sW_22, sN_1, sN_21, sN_22, sO_1, sO_21, sO_22, mCnt_sW, mCnt_sN, mCnt_sO]; try rfl)
    | 4, _ => first | rfl | (simp [cellM, arI, arZ, arQ, bNeed, mArr, nP, nB, nW, pHome, wTown, wBand, wDay, wState, tod, pIns, pFee, pSongs, pFeuds, pEarned, wStart, wLen, wSongs, wTold, wSet, wPrice, wPaid, wLate, bShape, sKey, sEnergy, sMin, sPlayed, rHours, rDrives, pOff, bGiv, sW_1, sW_21, sW_22, sN_1, sN_21, sN_22, sO_1, sO_21, sO_22, mCnt_sW, mCnt_sN, mCnt_sO]; try rfl)
    | 5, _ => first | rfl | (simp [cellM, arI, arZ, arQ, bNeed, mArr, nP, nB, nW, pHome, wTown, wBand, wDay, wState, tod, pIns, pFee, pSongs, pFeuds, pEarned, wStart, wLen, wSongs, wTold, wSet, wPrice, wPaid, wLate, bShape, sKey, sEnergy, sMin, sPlayed, rHours, rDrives, pOff, bGiv, sW_1, sW_21, sW_22, sN_1, sN_21, sN_22, sO_1, sO_21, sO_22, mCnt_sW, mCnt_sN, mCnt_sO]; try rfl)
    | 6, _ => first | rfl | (simp [cellM, arI, arZ, arQ, bNeed, mArr, nP, nB, nW, pHome, wTown, wBand, wDay, wState, tod, pIns, pFee, pSongs, pFeuds, pEarned, wStart, wLen, wSongs, wTold, wSet, wPrice, wPaid, wLate, bShape, sKey, sEnergy, sMin, sPlayed, rHours, rDrives, pOff, bGiv, sW_1, sW_21, sW_22, sN_1, sN_21, sN_22, sO_1, sO_21, sO_22, mCnt_sW, mCnt_sN, mCnt_sO]; try rfl)
    | 7, _ => first | rfl | (simp [cellM, arI, arZ, arQ, bNeed, mArr, nP, nB, nW, pHome, wTown, wBand, wDay, wState, tod, pIns, pFee, pSongs, pFeuds, pEarned, wStart, wLen, wSongs, wTold, wSet, wPrice, wPaid, wLate, bShape, sKey, sEnergy, sMin, sPlayed, rHours, rDrives, pOff, bGiv, sW_1, sW_21, sW_22, sN_1, sN_21, sN_22, sO_1, sO_21, sO_22, mCnt_sW, mCnt_sN, mCnt_sO]; try rfl)
    | 9, _ => first | rfl | (simp [cellM, arI, arZ, arQ, bNeed, mArr, nP, nB, nW, pHome, wTown, wBand, wDay, wState, tod, pIns, pFee, pSongs, pFeuds, pEarned, wStart, wLen, wSongs, wTold, wSet, wPrice, wPaid, wLate, bShape, sKey, sEnergy, sMin, sPlayed, rHours, rDrives, pOff, bGiv, sW_1, sW_21, sW_22, sN_1, sN_21, sN_22, sO_1, sO_21, sO_22, mCnt_sW, mCnt_sN, mCnt_sO]; try rfl)
    | n + 10, _ => rfl

set_option maxHeartbeats 4000000 in
theorem RM.Pa32 {D : va_G} {E : Nat → Nat} {β : Nat → Nat → Nat} {F : Nat → Prop} {σ : St} {th ca : Int32} {sm : Int64} {H H1 : Heap} (h : RM D E β F σ th ca sm H) {d : Nat} {v : Int32} (he : va_at D vwCl (β 8 2, .inl (E 1, 16, .inl (upd (sMin σ) d v))) H1) (hq : ∀ q, q ≠ β 8 2 → H1[q]? = H[q]?) : RM D E β F (sW σ 32 d v) th ca sm H1 := by
  obtain ⟨h1, h0, γ, h2, h3⟩ := h
  refine ⟨h1, h0, γ, ⟨fun a ha => by rw [mCnt_sW]; exact h2.1 a ha, h2.2⟩, h3.put (i := 8) (j := 2) (e0 := _) rfl he hq (fun i' j' => ?_)⟩
  by_cases hi : i' = 8
  · subst hi
    by_cases hj : j' = 2
    · subst hj
      rw [if_pos ⟨rfl, rfl⟩]
      simp [cellM, arI, arZ, mArr, nP, nB, nW, pHome, wTown, wBand, wDay, wState, tod, pIns, pFee, pSongs, pFeuds, pEarned, wStart, wLen, wSongs, wTold, wSet, wPrice, wPaid, wLate, bShape, sKey, sEnergy, sMin, sPlayed, rHours, rDrives, pOff, bGiv, sW_1, sW_21, sW_22, sN_1, sN_21, sN_22, sO_1, sO_21, sO_22, ]
      funext b; simp [upd, nP, nB, nW, pHome, wTown, wBand, wDay, wState, tod, pIns, pFee, pSongs, pFeuds, pEarned, wStart, wLen, wSongs, wTold, wSet, wPrice, wPaid, wLate, bShape, sKey, sEnergy, sMin, sPlayed, rHours, rDrives, pOff, bGiv, sW_1, sW_21, sW_22, sN_1, sN_21, sN_22, sO_1, sO_21, sO_22]
    · rw [if_neg (fun z => hj z.2)]
      match j', hj with
      | 0, h9 => first | rfl | exact absurd rfl h9
      | 1, h9 => first | rfl | exact absurd rfl h9
      | 2, h9 => first | rfl | exact absurd rfl h9
      | 3, h9 => first | rfl | exact absurd rfl h9
      | 4, h9 => first | rfl | exact absurd rfl h9
      | 5, h9 => first | rfl | exact absurd rfl h9
      | y + 6, _ => simp only [cellM]; rw [if_neg (by omega), if_neg (by omega), if_neg (by omega), if_neg (by omega)]
  · rw [if_neg (fun z => hi z.1)]
    match i', hi with
    | 0, _ => first | rfl | (simp [cellM, arI, arZ, arQ, bNeed, mArr, nP, nB, nW, pHome, wTown, wBand, wDay, wState, tod, pIns, pFee, pSongs, pFeuds, pEarned, wStart, wLen, wSongs, wTold, wSet, wPrice, wPaid, wLate, bShape, sKey, sEnergy, sMin, sPlayed, rHours, rDrives, pOff, bGiv, sW_1, sW_21, sW_22, sN_1, sN_21, sN_22, sO_1, sO_21, sO_22, mCnt_sW, mCnt_sN, mCnt_sO]; try rfl)
    | 1, _ => first | rfl | (simp [cellM, arI, arZ, arQ, bNeed, mArr, nP, nB, nW, pHome, wTown, wBand, wDay, wState, tod, pIns, pFee, pSongs, pFeuds, pEarned, wStart, wLen, wSongs, wTold, wSet, wPrice, wPaid, wLate, bShape, sKey, sEnergy, sMin, sPlayed, rHours, rDrives, pOff, bGiv, sW_1, sW_21, sW_22, sN_1, sN_21, sN_22, sO_1, sO_21, sO_22, mCnt_sW, mCnt_sN, mCnt_sO]; try rfl)
    | 2, _ => first | rfl | (simp [cellM, arI, arZ, arQ, bNeed, mArr, nP, nB, nW, pHome, wTown, wBand, wDay, wState, tod, pIns, pFee, pSongs, pFeuds, pEarned, wStart, wLen, wSongs, wTold, wSet, wPrice, wPaid, wLate, bShape, sKey, sEnergy, sMin, sPlayed, rHours, rDrives, pOff, bGiv, sW_1, sW_21, sW_22, sN_1, sN_21, sN_22, sO_1, sO_21, sO_22, mCnt_sW, mCnt_sN, mCnt_sO]; try rfl)
    | 3, _ => first | rfl | (simp [cellM, arI, arZ, arQ, bNeed, mArr, nP, nB, nW, pHome, wTown, wBand, wDay, wState, tod, pIns, pFee, pSongs, pFeuds, pEarned, wStart, wLen, wSongs, wTold, wSet, wPrice, wPaid, wLate, bShape, sKey, sEnergy, sMin, sPlayed, rHours, rDrives, pOff, bGiv, sW_1, sW_21, sW_22, sN_1, sN_21, sN_22, sO_1, sO_21, sO_22, mCnt_sW, mCnt_sN, mCnt_sO]; try rfl)
    | 4, _ => first | rfl | (simp [cellM, arI, arZ, arQ, bNeed, mArr, nP, nB, nW, pHome, wTown, wBand, wDay, wState, tod, pIns, pFee, pSongs, pFeuds, pEarned, wStart, wLen, wSongs, wTold, wSet, wPrice, wPaid, wLate, bShape, sKey, sEnergy, sMin, sPlayed, rHours, rDrives, pOff, bGiv, sW_1, sW_21, sW_22, sN_1, sN_21, sN_22, sO_1, sO_21, sO_22, mCnt_sW, mCnt_sN, mCnt_sO]; try rfl)
    | 5, _ => first | rfl | (simp [cellM, arI, arZ, arQ, bNeed, mArr, nP, nB, nW, pHome, wTown, wBand, wDay, wState, tod, pIns, pFee, pSongs, pFeuds, pEarned, wStart, wLen, wSongs, wTold, wSet, wPrice, wPaid, wLate, bShape, sKey, sEnergy, sMin, sPlayed, rHours, rDrives, pOff, bGiv, sW_1, sW_21, sW_22, sN_1, sN_21, sN_22, sO_1, sO_21, sO_22, mCnt_sW, mCnt_sN, mCnt_sO]; try rfl)
    | 6, _ => first | rfl | (simp [cellM, arI, arZ, arQ, bNeed, mArr, nP, nB, nW, pHome, wTown, wBand, wDay, wState, tod, pIns, pFee, pSongs, pFeuds, pEarned, wStart, wLen, wSongs, wTold, wSet, wPrice, wPaid, wLate, bShape, sKey, sEnergy, sMin, sPlayed, rHours, rDrives, pOff, bGiv, sW_1, sW_21, sW_22, sN_1, sN_21, sN_22, sO_1, sO_21, sO_22, mCnt_sW, mCnt_sN, mCnt_sO]; try rfl)
    | 7, _ => first | rfl | (simp [cellM, arI, arZ, arQ, bNeed, mArr, nP, nB, nW, pHome, wTown, wBand, wDay, wState, tod, pIns, pFee, pSongs, pFeuds, pEarned, wStart, wLen, wSongs, wTold, wSet, wPrice, wPaid, wLate, bShape, sKey, sEnergy, sMin, sPlayed, rHours, rDrives, pOff, bGiv, sW_1, sW_21, sW_22, sN_1, sN_21, sN_22, sO_1, sO_21, sO_22, mCnt_sW, mCnt_sN, mCnt_sO]; try rfl)
    | 9, _ => first | rfl | (simp [cellM, arI, arZ, arQ, bNeed, mArr, nP, nB, nW, pHome, wTown, wBand, wDay, wState, tod, pIns, pFee, pSongs, pFeuds, pEarned, wStart, wLen, wSongs, wTold, wSet, wPrice, wPaid, wLate, bShape, sKey, sEnergy, sMin, sPlayed, rHours, rDrives, pOff, bGiv, sW_1, sW_21, sW_22, sN_1, sN_21, sN_22, sO_1, sO_21, sO_22, mCnt_sW, mCnt_sN, mCnt_sO]; try rfl)
    | n + 10, _ => rfl

set_option maxHeartbeats 4000000 in
theorem RM.Pa33 {D : va_G} {E : Nat → Nat} {β : Nat → Nat → Nat} {F : Nat → Prop} {σ : St} {th ca : Int32} {sm : Int64} {H H1 : Heap} (h : RM D E β F σ th ca sm H) {d : Nat} {v : Int32} (he : va_at D vwCl (β 8 3, .inl (E 1, 16, .inl (upd (sPlayed σ) d v))) H1) (hq : ∀ q, q ≠ β 8 3 → H1[q]? = H[q]?) : RM D E β F (sW σ 33 d v) th ca sm H1 := by
  obtain ⟨h1, h0, γ, h2, h3⟩ := h
  refine ⟨h1, h0, γ, ⟨fun a ha => by rw [mCnt_sW]; exact h2.1 a ha, h2.2⟩, h3.put (i := 8) (j := 3) (e0 := _) rfl he hq (fun i' j' => ?_)⟩
  by_cases hi : i' = 8
  · subst hi
    by_cases hj : j' = 3
    · subst hj
      rw [if_pos ⟨rfl, rfl⟩]
      simp [cellM, arI, arZ, mArr, nP, nB, nW, pHome, wTown, wBand, wDay, wState, tod, pIns, pFee, pSongs, pFeuds, pEarned, wStart, wLen, wSongs, wTold, wSet, wPrice, wPaid, wLate, bShape, sKey, sEnergy, sMin, sPlayed, rHours, rDrives, pOff, bGiv, sW_1, sW_21, sW_22, sN_1, sN_21, sN_22, sO_1, sO_21, sO_22, ]
      funext b; simp [upd, nP, nB, nW, pHome, wTown, wBand, wDay, wState, tod, pIns, pFee, pSongs, pFeuds, pEarned, wStart, wLen, wSongs, wTold, wSet, wPrice, wPaid, wLate, bShape, sKey, sEnergy, sMin, sPlayed, rHours, rDrives, pOff, bGiv, sW_1, sW_21, sW_22, sN_1, sN_21, sN_22, sO_1, sO_21, sO_22]
    · rw [if_neg (fun z => hj z.2)]
      match j', hj with
      | 0, h9 => first | rfl | exact absurd rfl h9
      | 1, h9 => first | rfl | exact absurd rfl h9
      | 2, h9 => first | rfl | exact absurd rfl h9
      | 3, h9 => first | rfl | exact absurd rfl h9
      | 4, h9 => first | rfl | exact absurd rfl h9
      | 5, h9 => first | rfl | exact absurd rfl h9
      | y + 6, _ => simp only [cellM]; rw [if_neg (by omega), if_neg (by omega), if_neg (by omega), if_neg (by omega)]
  · rw [if_neg (fun z => hi z.1)]
    match i', hi with
    | 0, _ => first | rfl | (simp [cellM, arI, arZ, arQ, bNeed, mArr, nP, nB, nW, pHome, wTown, wBand, wDay, wState, tod, pIns, pFee, pSongs, pFeuds, pEarned, wStart, wLen, wSongs, wTold, wSet, wPrice, wPaid, wLate, bShape, sKey, sEnergy, sMin, sPlayed, rHours, rDrives, pOff, bGiv, sW_1, sW_21, sW_22, sN_1, sN_21, sN_22, sO_1, sO_21, sO_22, mCnt_sW, mCnt_sN, mCnt_sO]; try rfl)
    | 1, _ => first | rfl | (simp [cellM, arI, arZ, arQ, bNeed, mArr, nP, nB, nW, pHome, wTown, wBand, wDay, wState, tod, pIns, pFee, pSongs, pFeuds, pEarned, wStart, wLen, wSongs, wTold, wSet, wPrice, wPaid, wLate, bShape, sKey, sEnergy, sMin, sPlayed, rHours, rDrives, pOff, bGiv, sW_1, sW_21, sW_22, sN_1, sN_21, sN_22, sO_1, sO_21, sO_22, mCnt_sW, mCnt_sN, mCnt_sO]; try rfl)
    | 2, _ => first | rfl | (simp [cellM, arI, arZ, arQ, bNeed, mArr, nP, nB, nW, pHome, wTown, wBand, wDay, wState, tod, pIns, pFee, pSongs, pFeuds, pEarned, wStart, wLen, wSongs, wTold, wSet, wPrice, wPaid, wLate, bShape, sKey, sEnergy, sMin, sPlayed, rHours, rDrives, pOff, bGiv, sW_1, sW_21, sW_22, sN_1, sN_21, sN_22, sO_1, sO_21, sO_22, mCnt_sW, mCnt_sN, mCnt_sO]; try rfl)
    | 3, _ => first | rfl | (simp [cellM, arI, arZ, arQ, bNeed, mArr, nP, nB, nW, pHome, wTown, wBand, wDay, wState, tod, pIns, pFee, pSongs, pFeuds, pEarned, wStart, wLen, wSongs, wTold, wSet, wPrice, wPaid, wLate, bShape, sKey, sEnergy, sMin, sPlayed, rHours, rDrives, pOff, bGiv, sW_1, sW_21, sW_22, sN_1, sN_21, sN_22, sO_1, sO_21, sO_22, mCnt_sW, mCnt_sN, mCnt_sO]; try rfl)
    | 4, _ => first | rfl | (simp [cellM, arI, arZ, arQ, bNeed, mArr, nP, nB, nW, pHome, wTown, wBand, wDay, wState, tod, pIns, pFee, pSongs, pFeuds, pEarned, wStart, wLen, wSongs, wTold, wSet, wPrice, wPaid, wLate, bShape, sKey, sEnergy, sMin, sPlayed, rHours, rDrives, pOff, bGiv, sW_1, sW_21, sW_22, sN_1, sN_21, sN_22, sO_1, sO_21, sO_22, mCnt_sW, mCnt_sN, mCnt_sO]; try rfl)
    | 5, _ => first | rfl | (simp [cellM, arI, arZ, arQ, bNeed, mArr, nP, nB, nW, pHome, wTown, wBand, wDay, wState, tod, pIns, pFee, pSongs, pFeuds, pEarned, wStart, wLen, wSongs, wTold, wSet, wPrice, wPaid, wLate, bShape, sKey, sEnergy, sMin, sPlayed, rHours, rDrives, pOff, bGiv, sW_1, sW_21, sW_22, sN_1, sN_21, sN_22, sO_1, sO_21, sO_22, mCnt_sW, mCnt_sN, mCnt_sO]; try rfl)
    | 6, _ => first | rfl | (simp [cellM, arI, arZ, arQ, bNeed, mArr, nP, nB, nW, pHome, wTown, wBand, wDay, wState, tod, pIns, pFee, pSongs, pFeuds, pEarned, wStart, wLen, wSongs, wTold, wSet, wPrice, wPaid, wLate, bShape, sKey, sEnergy, sMin, sPlayed, rHours, rDrives, pOff, bGiv, sW_1, sW_21, sW_22, sN_1, sN_21, sN_22, sO_1, sO_21, sO_22, mCnt_sW, mCnt_sN, mCnt_sO]; try rfl)
    | 7, _ => first | rfl | (simp [cellM, arI, arZ, arQ, bNeed, mArr, nP, nB, nW, pHome, wTown, wBand, wDay, wState, tod, pIns, pFee, pSongs, pFeuds, pEarned, wStart, wLen, wSongs, wTold, wSet, wPrice, wPaid, wLate, bShape, sKey, sEnergy, sMin, sPlayed, rHours, rDrives, pOff, bGiv, sW_1, sW_21, sW_22, sN_1, sN_21, sN_22, sO_1, sO_21, sO_22, mCnt_sW, mCnt_sN, mCnt_sO]; try rfl)
    | 9, _ => first | rfl | (simp [cellM, arI, arZ, arQ, bNeed, mArr, nP, nB, nW, pHome, wTown, wBand, wDay, wState, tod, pIns, pFee, pSongs, pFeuds, pEarned, wStart, wLen, wSongs, wTold, wSet, wPrice, wPaid, wLate, bShape, sKey, sEnergy, sMin, sPlayed, rHours, rDrives, pOff, bGiv, sW_1, sW_21, sW_22, sN_1, sN_21, sN_22, sO_1, sO_21, sO_22, mCnt_sW, mCnt_sN, mCnt_sO]; try rfl)
    | n + 10, _ => rfl

set_option maxHeartbeats 4000000 in
theorem RM.Pa40 {D : va_G} {E : Nat → Nat} {β : Nat → Nat → Nat} {F : Nat → Prop} {σ : St} {th ca : Int32} {sm : Int64} {H H1 : Heap} (h : RM D E β F σ th ca sm H) {d : Nat} {v : Int32} (he : va_at D vwCl (β 8 4, .inl (E 1, 36, .inl (upd (rHours σ) d v))) H1) (hq : ∀ q, q ≠ β 8 4 → H1[q]? = H[q]?) : RM D E β F (sW σ 40 d v) th ca sm H1 := by
  obtain ⟨h1, h0, γ, h2, h3⟩ := h
  refine ⟨h1, h0, γ, ⟨fun a ha => by rw [mCnt_sW]; exact h2.1 a ha, h2.2⟩, h3.put (i := 8) (j := 4) (e0 := _) rfl he hq (fun i' j' => ?_)⟩
  by_cases hi : i' = 8
  · subst hi
    by_cases hj : j' = 4
    · subst hj
      rw [if_pos ⟨rfl, rfl⟩]
      simp [cellM, arI, arZ, mArr, nP, nB, nW, pHome, wTown, wBand, wDay, wState, tod, pIns, pFee, pSongs, pFeuds, pEarned, wStart, wLen, wSongs, wTold, wSet, wPrice, wPaid, wLate, bShape, sKey, sEnergy, sMin, sPlayed, rHours, rDrives, pOff, bGiv, sW_1, sW_21, sW_22, sN_1, sN_21, sN_22, sO_1, sO_21, sO_22, ]
      funext b; simp [upd, nP, nB, nW, pHome, wTown, wBand, wDay, wState, tod, pIns, pFee, pSongs, pFeuds, pEarned, wStart, wLen, wSongs, wTold, wSet, wPrice, wPaid, wLate, bShape, sKey, sEnergy, sMin, sPlayed, rHours, rDrives, pOff, bGiv, sW_1, sW_21, sW_22, sN_1, sN_21, sN_22, sO_1, sO_21, sO_22]
    · rw [if_neg (fun z => hj z.2)]
      match j', hj with
      | 0, h9 => first | rfl | exact absurd rfl h9
      | 1, h9 => first | rfl | exact absurd rfl h9
      | 2, h9 => first | rfl | exact absurd rfl h9
      | 3, h9 => first | rfl | exact absurd rfl h9
      | 4, h9 => first | rfl | exact absurd rfl h9
      | 5, h9 => first | rfl | exact absurd rfl h9
      | y + 6, _ => simp only [cellM]; rw [if_neg (by omega), if_neg (by omega), if_neg (by omega), if_neg (by omega)]
  · rw [if_neg (fun z => hi z.1)]
    match i', hi with
    | 0, _ => first | rfl | (simp [cellM, arI, arZ, arQ, bNeed, mArr, nP, nB, nW, pHome, wTown, wBand, wDay, wState, tod, pIns, pFee, pSongs, pFeuds, pEarned, wStart, wLen, wSongs, wTold, wSet, wPrice, wPaid, wLate, bShape, sKey, sEnergy, sMin, sPlayed, rHours, rDrives, pOff, bGiv, sW_1, sW_21, sW_22, sN_1, sN_21, sN_22, sO_1, sO_21, sO_22, mCnt_sW, mCnt_sN, mCnt_sO]; try rfl)
    | 1, _ => first | rfl | (simp [cellM, arI, arZ, arQ, bNeed, mArr, nP, nB, nW, pHome, wTown, wBand, wDay, wState, tod, pIns, pFee, pSongs, pFeuds, pEarned, wStart, wLen, wSongs, wTold, wSet, wPrice, wPaid, wLate, bShape, sKey, sEnergy, sMin, sPlayed, rHours, rDrives, pOff, bGiv, sW_1, sW_21, sW_22, sN_1, sN_21, sN_22, sO_1, sO_21, sO_22, mCnt_sW, mCnt_sN, mCnt_sO]; try rfl)
    | 2, _ => first | rfl | (simp [cellM, arI, arZ, arQ, bNeed, mArr, nP, nB, nW, pHome, wTown, wBand, wDay, wState, tod, pIns, pFee, pSongs, pFeuds, pEarned, wStart, wLen, wSongs, wTold, wSet, wPrice, wPaid, wLate, bShape, sKey, sEnergy, sMin, sPlayed, rHours, rDrives, pOff, bGiv, sW_1, sW_21, sW_22, sN_1, sN_21, sN_22, sO_1, sO_21, sO_22, mCnt_sW, mCnt_sN, mCnt_sO]; try rfl)
    | 3, _ => first | rfl | (simp [cellM, arI, arZ, arQ, bNeed, mArr, nP, nB, nW, pHome, wTown, wBand, wDay, wState, tod, pIns, pFee, pSongs, pFeuds, pEarned, wStart, wLen, wSongs, wTold, wSet, wPrice, wPaid, wLate, bShape, sKey, sEnergy, sMin, sPlayed, rHours, rDrives, pOff, bGiv, sW_1, sW_21, sW_22, sN_1, sN_21, sN_22, sO_1, sO_21, sO_22, mCnt_sW, mCnt_sN, mCnt_sO]; try rfl)
    | 4, _ => first | rfl | (simp [cellM, arI, arZ, arQ, bNeed, mArr, nP, nB, nW, pHome, wTown, wBand, wDay, wState, tod, pIns, pFee, pSongs, pFeuds, pEarned, wStart, wLen, wSongs, wTold, wSet, wPrice, wPaid, wLate, bShape, sKey, sEnergy, sMin, sPlayed, rHours, rDrives, pOff, bGiv, sW_1, sW_21, sW_22, sN_1, sN_21, sN_22, sO_1, sO_21, sO_22, mCnt_sW, mCnt_sN, mCnt_sO]; try rfl)
    | 5, _ => first | rfl | (simp [cellM, arI, arZ, arQ, bNeed, mArr, nP, nB, nW, pHome, wTown, wBand, wDay, wState, tod, pIns, pFee, pSongs, pFeuds, pEarned, wStart, wLen, wSongs, wTold, wSet, wPrice, wPaid, wLate, bShape, sKey, sEnergy, sMin, sPlayed, rHours, rDrives, pOff, bGiv, sW_1, sW_21, sW_22, sN_1, sN_21, sN_22, sO_1, sO_21, sO_22, mCnt_sW, mCnt_sN, mCnt_sO]; try rfl)
    | 6, _ => first | rfl | (simp [cellM, arI, arZ, arQ, bNeed, mArr, nP, nB, nW, pHome, wTown, wBand, wDay, wState, tod, pIns, pFee, pSongs, pFeuds, pEarned, wStart, wLen, wSongs, wTold, wSet, wPrice, wPaid, wLate, bShape, sKey, sEnergy, sMin, sPlayed, rHours, rDrives, pOff, bGiv, sW_1, sW_21, sW_22, sN_1, sN_21, sN_22, sO_1, sO_21, sO_22, mCnt_sW, mCnt_sN, mCnt_sO]; try rfl)
    | 7, _ => first | rfl | (simp [cellM, arI, arZ, arQ, bNeed, mArr, nP, nB, nW, pHome, wTown, wBand, wDay, wState, tod, pIns, pFee, pSongs, pFeuds, pEarned, wStart, wLen, wSongs, wTold, wSet, wPrice, wPaid, wLate, bShape, sKey, sEnergy, sMin, sPlayed, rHours, rDrives, pOff, bGiv, sW_1, sW_21, sW_22, sN_1, sN_21, sN_22, sO_1, sO_21, sO_22, mCnt_sW, mCnt_sN, mCnt_sO]; try rfl)
    | 9, _ => first | rfl | (simp [cellM, arI, arZ, arQ, bNeed, mArr, nP, nB, nW, pHome, wTown, wBand, wDay, wState, tod, pIns, pFee, pSongs, pFeuds, pEarned, wStart, wLen, wSongs, wTold, wSet, wPrice, wPaid, wLate, bShape, sKey, sEnergy, sMin, sPlayed, rHours, rDrives, pOff, bGiv, sW_1, sW_21, sW_22, sN_1, sN_21, sN_22, sO_1, sO_21, sO_22, mCnt_sW, mCnt_sN, mCnt_sO]; try rfl)
    | n + 10, _ => rfl

set_option maxHeartbeats 4000000 in
theorem RM.Pa41 {D : va_G} {E : Nat → Nat} {β : Nat → Nat → Nat} {F : Nat → Prop} {σ : St} {th ca : Int32} {sm : Int64} {H H1 : Heap} (h : RM D E β F σ th ca sm H) {d : Nat} {v : Int32} (he : va_at D vwCl (β 8 5, .inl (E 1, 36, .inl (upd (rDrives σ) d v))) H1) (hq : ∀ q, q ≠ β 8 5 → H1[q]? = H[q]?) : RM D E β F (sW σ 41 d v) th ca sm H1 := by
  obtain ⟨h1, h0, γ, h2, h3⟩ := h
  refine ⟨h1, h0, γ, ⟨fun a ha => by rw [mCnt_sW]; exact h2.1 a ha, h2.2⟩, h3.put (i := 8) (j := 5) (e0 := _) rfl he hq (fun i' j' => ?_)⟩
  by_cases hi : i' = 8
  · subst hi
    by_cases hj : j' = 5
    · subst hj
      rw [if_pos ⟨rfl, rfl⟩]
      simp [cellM, arI, arZ, mArr, nP, nB, nW, pHome, wTown, wBand, wDay, wState, tod, pIns, pFee, pSongs, pFeuds, pEarned, wStart, wLen, wSongs, wTold, wSet, wPrice, wPaid, wLate, bShape, sKey, sEnergy, sMin, sPlayed, rHours, rDrives, pOff, bGiv, sW_1, sW_21, sW_22, sN_1, sN_21, sN_22, sO_1, sO_21, sO_22, ]
      funext b; simp [upd, nP, nB, nW, pHome, wTown, wBand, wDay, wState, tod, pIns, pFee, pSongs, pFeuds, pEarned, wStart, wLen, wSongs, wTold, wSet, wPrice, wPaid, wLate, bShape, sKey, sEnergy, sMin, sPlayed, rHours, rDrives, pOff, bGiv, sW_1, sW_21, sW_22, sN_1, sN_21, sN_22, sO_1, sO_21, sO_22]
    · rw [if_neg (fun z => hj z.2)]
      match j', hj with
      | 0, h9 => first | rfl | exact absurd rfl h9
      | 1, h9 => first | rfl | exact absurd rfl h9
      | 2, h9 => first | rfl | exact absurd rfl h9
      | 3, h9 => first | rfl | exact absurd rfl h9
      | 4, h9 => first | rfl | exact absurd rfl h9
      | 5, h9 => first | rfl | exact absurd rfl h9
      | y + 6, _ => simp only [cellM]; rw [if_neg (by omega), if_neg (by omega), if_neg (by omega), if_neg (by omega)]
  · rw [if_neg (fun z => hi z.1)]
    match i', hi with
    | 0, _ => first | rfl | (simp [cellM, arI, arZ, arQ, bNeed, mArr, nP, nB, nW, pHome, wTown, wBand, wDay, wState, tod, pIns, pFee, pSongs, pFeuds, pEarned, wStart, wLen, wSongs, wTold, wSet, wPrice, wPaid, wLate, bShape, sKey, sEnergy, sMin, sPlayed, rHours, rDrives, pOff, bGiv, sW_1, sW_21, sW_22, sN_1, sN_21, sN_22, sO_1, sO_21, sO_22, mCnt_sW, mCnt_sN, mCnt_sO]; try rfl)
    | 1, _ => first | rfl | (simp [cellM, arI, arZ, arQ, bNeed, mArr, nP, nB, nW, pHome, wTown, wBand, wDay, wState, tod, pIns, pFee, pSongs, pFeuds, pEarned, wStart, wLen, wSongs, wTold, wSet, wPrice, wPaid, wLate, bShape, sKey, sEnergy, sMin, sPlayed, rHours, rDrives, pOff, bGiv, sW_1, sW_21, sW_22, sN_1, sN_21, sN_22, sO_1, sO_21, sO_22, mCnt_sW, mCnt_sN, mCnt_sO]; try rfl)
    | 2, _ => first | rfl | (simp [cellM, arI, arZ, arQ, bNeed, mArr, nP, nB, nW, pHome, wTown, wBand, wDay, wState, tod, pIns, pFee, pSongs, pFeuds, pEarned, wStart, wLen, wSongs, wTold, wSet, wPrice, wPaid, wLate, bShape, sKey, sEnergy, sMin, sPlayed, rHours, rDrives, pOff, bGiv, sW_1, sW_21, sW_22, sN_1, sN_21, sN_22, sO_1, sO_21, sO_22, mCnt_sW, mCnt_sN, mCnt_sO]; try rfl)
    | 3, _ => first | rfl | (simp [cellM, arI, arZ, arQ, bNeed, mArr, nP, nB, nW, pHome, wTown, wBand, wDay, wState, tod, pIns, pFee, pSongs, pFeuds, pEarned, wStart, wLen, wSongs, wTold, wSet, wPrice, wPaid, wLate, bShape, sKey, sEnergy, sMin, sPlayed, rHours, rDrives, pOff, bGiv, sW_1, sW_21, sW_22, sN_1, sN_21, sN_22, sO_1, sO_21, sO_22, mCnt_sW, mCnt_sN, mCnt_sO]; try rfl)
    | 4, _ => first | rfl | (simp [cellM, arI, arZ, arQ, bNeed, mArr, nP, nB, nW, pHome, wTown, wBand, wDay, wState, tod, pIns, pFee, pSongs, pFeuds, pEarned, wStart, wLen, wSongs, wTold, wSet, wPrice, wPaid, wLate, bShape, sKey, sEnergy, sMin, sPlayed, rHours, rDrives, pOff, bGiv, sW_1, sW_21, sW_22, sN_1, sN_21, sN_22, sO_1, sO_21, sO_22, mCnt_sW, mCnt_sN, mCnt_sO]; try rfl)
    | 5, _ => first | rfl | (simp [cellM, arI, arZ, arQ, bNeed, mArr, nP, nB, nW, pHome, wTown, wBand, wDay, wState, tod, pIns, pFee, pSongs, pFeuds, pEarned, wStart, wLen, wSongs, wTold, wSet, wPrice, wPaid, wLate, bShape, sKey, sEnergy, sMin, sPlayed, rHours, rDrives, pOff, bGiv, sW_1, sW_21, sW_22, sN_1, sN_21, sN_22, sO_1, sO_21, sO_22, mCnt_sW, mCnt_sN, mCnt_sO]; try rfl)
    | 6, _ => first | rfl | (simp [cellM, arI, arZ, arQ, bNeed, mArr, nP, nB, nW, pHome, wTown, wBand, wDay, wState, tod, pIns, pFee, pSongs, pFeuds, pEarned, wStart, wLen, wSongs, wTold, wSet, wPrice, wPaid, wLate, bShape, sKey, sEnergy, sMin, sPlayed, rHours, rDrives, pOff, bGiv, sW_1, sW_21, sW_22, sN_1, sN_21, sN_22, sO_1, sO_21, sO_22, mCnt_sW, mCnt_sN, mCnt_sO]; try rfl)
    | 7, _ => first | rfl | (simp [cellM, arI, arZ, arQ, bNeed, mArr, nP, nB, nW, pHome, wTown, wBand, wDay, wState, tod, pIns, pFee, pSongs, pFeuds, pEarned, wStart, wLen, wSongs, wTold, wSet, wPrice, wPaid, wLate, bShape, sKey, sEnergy, sMin, sPlayed, rHours, rDrives, pOff, bGiv, sW_1, sW_21, sW_22, sN_1, sN_21, sN_22, sO_1, sO_21, sO_22, mCnt_sW, mCnt_sN, mCnt_sO]; try rfl)
    | 9, _ => first | rfl | (simp [cellM, arI, arZ, arQ, bNeed, mArr, nP, nB, nW, pHome, wTown, wBand, wDay, wState, tod, pIns, pFee, pSongs, pFeuds, pEarned, wStart, wLen, wSongs, wTold, wSet, wPrice, wPaid, wLate, bShape, sKey, sEnergy, sMin, sPlayed, rHours, rDrives, pOff, bGiv, sW_1, sW_21, sW_22, sN_1, sN_21, sN_22, sO_1, sO_21, sO_22, mCnt_sW, mCnt_sN, mCnt_sO]; try rfl)
    | n + 10, _ => rfl

