/-! THE TWO SYSTEMS' STATE as one table (naturals: σ.1, ints: σ.2.1, days off: σ.2.2), and how each heap holds it -/
abbrev St : Type := (Nat → Nat → Nat) × (Nat → Nat → Int32) × (Nat → Nat → Int32)
abbrev nP (σ : St) : Nat := σ.1 0 0
abbrev nB (σ : St) : Nat := σ.1 0 1
abbrev nW (σ : St) : Nat := σ.1 0 2
abbrev pHome (σ : St) (k : Nat) : Nat := σ.1 1 k
abbrev wTown (σ : St) (k : Nat) : Nat := σ.1 2 k
abbrev wBand (σ : St) (k : Nat) : Nat := σ.1 3 k
abbrev wDay (σ : St) (k : Nat) : Nat := σ.1 4 k
abbrev wState (σ : St) (k : Nat) : Nat := σ.1 5 k
abbrev tod (σ : St) : Int32 := σ.2.1 0 0
abbrev pIns (σ : St) (k : Nat) : Int32 := σ.2.1 10 k
abbrev pFee (σ : St) (k : Nat) : Int32 := σ.2.1 11 k
abbrev pSongs (σ : St) (k : Nat) : Int32 := σ.2.1 12 k
abbrev pFeuds (σ : St) (k : Nat) : Int32 := σ.2.1 13 k
abbrev pEarned (σ : St) (k : Nat) : Int32 := σ.2.1 14 k
abbrev wStart (σ : St) (k : Nat) : Int32 := σ.2.1 20 k
abbrev wLen (σ : St) (k : Nat) : Int32 := σ.2.1 21 k
abbrev wSongs (σ : St) (k : Nat) : Int32 := σ.2.1 22 k
abbrev wTold (σ : St) (k : Nat) : Int32 := σ.2.1 23 k
abbrev wSet (σ : St) (k : Nat) : Int32 := σ.2.1 24 k
abbrev wPrice (σ : St) (k : Nat) : Int32 := σ.2.1 25 k
abbrev wPaid (σ : St) (k : Nat) : Int32 := σ.2.1 26 k
abbrev wLate (σ : St) (k : Nat) : Int32 := σ.2.1 27 k
abbrev bShape (σ : St) (k : Nat) : Int32 := σ.2.1 28 k
abbrev sKey (σ : St) (k : Nat) : Int32 := σ.2.1 30 k
abbrev sEnergy (σ : St) (k : Nat) : Int32 := σ.2.1 31 k
abbrev sMin (σ : St) (k : Nat) : Int32 := σ.2.1 32 k
abbrev sPlayed (σ : St) (k : Nat) : Int32 := σ.2.1 33 k
abbrev rHours (σ : St) (k : Nat) : Int32 := σ.2.1 40 k
abbrev rDrives (σ : St) (k : Nat) : Int32 := σ.2.1 41 k
abbrev pOff (σ : St) (k j : Nat) : Int32 := σ.2.2 k j
/-- what a shape has given away, while it is tried; nothing before and behind that -/
abbrev bGiv (σ : St) (b k : Nat) : Int32 := σ.2.1 (1000 + b) k
/-- what stands behind a shape's number: its k-th digit, base 3 -/
def shNeed : Int32 → Nat → Int32
  | x, 0 => x - x / 3 * 3
  | x, k + 1 => shNeed (x / 3) k
abbrev bNeed (σ : St) (b k : Nat) : Int32 := shNeed (bShape σ b) k
abbrev Gh : Type := (Nat → Int32) × (Nat → Nat) × (Nat → Nat → Option Nat)
def xCnt (σ : St) : Nat → Nat
  | 0 => nP σ
  | 1 => 16
  | 2 => nB σ
  | _ => nW σ
def xEl : Nat → Nat
  | 0 => 3
  | 1 => 6
  | 2 => 9
  | _ => 5
/-- what indices and states are, always -/
def RI (σ : St) : Prop := nP σ ≤ 10 ∧ nB σ ≤ 6 ∧ nW σ ≤ 14 ∧ (∀ k, k < nP σ → pHome σ k < 6) ∧ (∀ k, k < nW σ → wTown σ k < 6 ∧ wBand σ k < nB σ ∧ wDay σ k < 366 ∧ wState σ k < 4)
def arI (E : Nat → Nat) (n : Nat) (f : Nat → Int32) : va_E := .inl (E 1, n, .inl f)
def arZ (E : Nat → Nat) (n : Nat) (f : Nat → Int32) : va_E := .inl (E 2, n, .inl f)
def arQ (E : Nat → Nat) (n : Nat) (f : Nat → Option Nat) : va_E := .inl (E 3, n, .inr (.inr (.inr (.inr f))))
def cellX (E : Nat → Nat) (σ : St) (γ : Gh) (α : Nat → Nat → Nat) : Nat → Nat → Option va_E
  | 0, j => if j = 0 then some (.inr (0, [.ref (α 1 0), .ref (α 1 1), .ref (α 7 0), .ref (α 1 2), .ref (α 1 3), .int (tod σ)])) else none
  | 1, j => if j < 4 then some (.inr (13, [.int (γ.1 j), .ref (α 2 j), .int (nI (xCnt σ j))])) else none
  | 2, j => if j < 4 ∧ γ.2.1 j ≠ 0 then some (arQ E (γ.2.1 j) (fun k => if k < xCnt σ j then some (α (xEl j) k) else γ.2.2 j k)) else none
  | 3, k => if k < nP σ then some (.inr (5, [.int (pIns σ k), .int (nI (pHome σ k)), .int (pFee σ k), .int (pSongs σ k), .int (pFeuds σ k), .int (pEarned σ k), .ref (α 4 k)])) else none
  | 4, k => if k < nP σ then some (arZ E 366 (pOff σ k)) else none
  | 5, k => if k < nW σ then some (.inr (8, [.int (nI (wBand σ k)), .int (nI (wDay σ k)), .int (nI (wTown σ k)), .int (wStart σ k), .int (wLen σ k), .int (wSongs σ k), .int (wTold σ k), .ref (E (10 + wState σ k)), .int (wSet σ k), .int (wPrice σ k), .int (wPaid σ k), .int (wLate σ k)])) else none
  | 6, k => if k < 16 then some (.inr (2, [.int (sKey σ k), .int (sEnergy σ k), .int (sMin σ k), .int (sPlayed σ k)])) else none
  | 7, j => if j = 0 then some (.inr (1, [.ref (α 8 0), .ref (α 8 1)])) else none
  | 8, j => if j = 0 then some (arI E 36 (rHours σ)) else if j = 1 then some (arI E 36 (rDrives σ)) else none
  | 9, b => if b < nB σ then some (.inr (7, [.ref (α 10 b), .ref (α 11 b)])) else none
  | 10, b => if b < nB σ then some (arI E 6 (bNeed σ b)) else none
  | 11, b => if b < nB σ then some (arI E 6 (bGiv σ b)) else none
  | _, _ => none
/-- cells by their names, at addresses that are apart, in a set -/
def Rep (D : va_G) (C : Nat → Nat → Option va_E) (α : Nat → Nat → Nat) (F : Nat → Prop) (H : Heap) : Prop :=
  (∀ i j e, C i j = some e → va_at D vwCl (α i j, e) H ∧ F (α i j)) ∧ ∀ i j i' j' e e', C i j = some e → C i' j' = some e' → α i j = α i' j' → i = i' ∧ j = j'
def xLs (E : Nat → Nat) (σ : St) (γ : Gh) (α : Nat → Nat → Nat) : Prop := ∀ j, j < 4 → xCnt σ j ≤ γ.2.1 j ∧ (γ.2.1 j ≤ 100 ∧ γ.2.1 j ≤ 10 + 2 * xCnt σ j) ∧ (γ.2.1 j = 0 → α 2 j = E 6)
def RX (D : va_G) (E : Nat → Nat) (α : Nat → Nat → Nat) (F : Nat → Prop) (σ : St) (H : Heap) : Prop := RI σ ∧ (∀ q, F q → E 0 ≤ q) ∧ ∃ γ : Gh, xLs E σ γ α ∧ Rep D (cellX E σ γ α) α F H
/-- an ArrayList of n elements, whose addresses are f -/
def LR (D : va_G) (E : Nat → Nat) (lst arr n cap : Nat) (mc : Int32) (g : Nat → Option Nat) (H : Heap) : Prop :=
  va_at D vwCl (lst, .inr (13, [.int mc, .ref arr, .int (nI n)])) H ∧ n ≤ cap ∧ cap ≤ 10000 ∧ ((cap = 0 ∧ arr = E 6) ∨ (cap ≠ 0 ∧ va_at D vwCl (arr, arQ E cap g) H))
theorem Rep.kept {D : va_G} {C : Nat → Nat → Option va_E} {α : Nat → Nat → Nat} {F : Nat → Prop} {H H1 : Heap} (h : Rep D C α F H) (hq : ∀ q : Nat, q < H.size → F q → H1[q]? = H[q]?) : Rep D C α F H1 :=
  ⟨fun i j e he => ⟨(h.1 i j e he).1.kept (hq _ (h.1 i j e he).1.lt (h.1 i j e he).2), (h.1 i j e he).2⟩, h.2⟩
theorem RX.kept {D : va_G} {E : Nat → Nat} {α : Nat → Nat → Nat} {F : Nat → Prop} {σ : St} {H H1 : Heap} (h : RX D E α F σ H) (hq : ∀ q : Nat, q < H.size → F q → H1[q]? = H[q]?) : RX D E α F σ H1 := by
  obtain ⟨h1, h0, γ, h2, h3⟩ := h
  exact ⟨h1, h0, γ, h2, h3.kept hq⟩
section RXP
variable {D : va_G} {E : Nat → Nat} {α : Nat → Nat → Nat} {F : Nat → Prop} {σ : St} {H : Heap}
theorem RX.ri (h : RX D E α F σ H) : RI σ := h.1
theorem RX.nP10 (h : RX D E α F σ H) : nP σ ≤ 10 := h.1.1
theorem RX.nB6 (h : RX D E α F σ H) : nB σ ≤ 6 := h.1.2.1
theorem RX.nW14 (h : RX D E α F σ H) : nW σ ≤ 14 := h.1.2.2.1
theorem RX.home (h : RX D E α F σ H) {k : Nat} (hk : k < nP σ) : pHome σ k < 6 := h.1.2.2.2.1 k hk
theorem RX.town (h : RX D E α F σ H) {k : Nat} (hk : k < nW σ) : wTown σ k < 6 := (h.1.2.2.2.2 k hk).1
theorem RX.band (h : RX D E α F σ H) {k : Nat} (hk : k < nW σ) : wBand σ k < nB σ := (h.1.2.2.2.2 k hk).2.1
theorem RX.day (h : RX D E α F σ H) {k : Nat} (hk : k < nW σ) : wDay σ k < 366 := (h.1.2.2.2.2 k hk).2.2.1
theorem RX.state (h : RX D E α F σ H) {k : Nat} (hk : k < nW σ) : wState σ k < 4 := (h.1.2.2.2.2 k hk).2.2.2
theorem RX.ag (h : RX D E α F σ H) : va_at D vwCl (α 0 0, .inr (0, [.ref (α 1 0), .ref (α 1 1), .ref (α 7 0), .ref (α 1 2), .ref (α 1 3), .int (tod σ)])) H := by
  obtain ⟨-, -, γ, -, h3⟩ := h
  exact (h3.1 0 0 (.inr (0, [.ref (α 1 0), .ref (α 1 1), .ref (α 7 0), .ref (α 1 2), .ref (α 1 3), .int (tod σ)])) rfl).1
theorem RX.ls (h : RX D E α F σ H) {j : Nat} (hj : j < 4) : ∃ (cap : Nat) (mc : Int32) (g : Nat → Option Nat), LR D E (α 1 j) (α 2 j) (xCnt σ j) cap mc g H ∧ ∀ k, k < xCnt σ j → g k = some (α (xEl j) k) := by
  obtain ⟨-, -, γ, h2, h3⟩ := h
  obtain ⟨q1, q2, q3⟩ := h2 j hj
  refine ⟨γ.2.1 j, γ.1 j, fun k => if k < xCnt σ j then some (α (xEl j) k) else γ.2.2 j k, ⟨(h3.1 1 j _ (if_pos hj)).1, q1, by omega, ?_⟩, fun k hk => if_pos hk⟩
  by_cases hc : γ.2.1 j = 0
  · exact Or.inl ⟨hc, q3 hc⟩
  · exact Or.inr ⟨hc, (h3.1 2 j _ (if_pos ⟨hj, hc⟩)).1⟩
theorem RX.pl (h : RX D E α F σ H) {k : Nat} (hk : k < nP σ) : va_at D vwCl (α 3 k, .inr (5, [.int (pIns σ k), .int (nI (pHome σ k)), .int (pFee σ k), .int (pSongs σ k), .int (pFeuds σ k), .int (pEarned σ k), .ref (α 4 k)])) H := by
  obtain ⟨-, -, γ, -, h3⟩ := h
  exact (h3.1 3 k _ (if_pos hk)).1
theorem RX.off (h : RX D E α F σ H) {k : Nat} (hk : k < nP σ) : va_at D vwCl (α 4 k, .inl (E 2, 366, .inl (pOff σ k))) H := by
  obtain ⟨-, -, γ, -, h3⟩ := h
  exact (h3.1 4 k _ (if_pos hk)).1
theorem RX.wd (h : RX D E α F σ H) {k : Nat} (hk : k < nW σ) : va_at D vwCl (α 5 k, .inr (8, [.int (nI (wBand σ k)), .int (nI (wDay σ k)), .int (nI (wTown σ k)), .int (wStart σ k), .int (wLen σ k), .int (wSongs σ k), .int (wTold σ k), .ref (E (10 + wState σ k)), .int (wSet σ k), .int (wPrice σ k), .int (wPaid σ k), .int (wLate σ k)])) H := by
  obtain ⟨-, -, γ, -, h3⟩ := h
  exact (h3.1 5 k _ (if_pos hk)).1
theorem RX.sg (h : RX D E α F σ H) {k : Nat} (hk : k < 16) : va_at D vwCl (α 6 k, .inr (2, [.int (sKey σ k), .int (sEnergy σ k), .int (sMin σ k), .int (sPlayed σ k)])) H := by
  obtain ⟨-, -, γ, -, h3⟩ := h
  exact (h3.1 6 k _ (if_pos hk)).1
theorem RX.rd (h : RX D E α F σ H) : va_at D vwCl (α 7 0, .inr (1, [.ref (α 8 0), .ref (α 8 1)])) H := by
  obtain ⟨-, -, γ, -, h3⟩ := h
  exact (h3.1 7 0 (.inr (1, [.ref (α 8 0), .ref (α 8 1)])) rfl).1
theorem RX.hr (h : RX D E α F σ H) : va_at D vwCl (α 8 0, .inl (E 1, 36, .inl (rHours σ))) H := by
  obtain ⟨-, -, γ, -, h3⟩ := h
  exact (h3.1 8 0 (arI E 36 (rHours σ)) rfl).1
theorem RX.dr (h : RX D E α F σ H) : va_at D vwCl (α 8 1, .inl (E 1, 36, .inl (rDrives σ))) H := by
  obtain ⟨-, -, γ, -, h3⟩ := h
  exact (h3.1 8 1 (arI E 36 (rDrives σ)) rfl).1
theorem RX.sh (h : RX D E α F σ H) {k : Nat} (hk : k < nB σ) : va_at D vwCl (α 9 k, .inr (7, [.ref (α 10 k), .ref (α 11 k)])) H := by
  obtain ⟨-, -, γ, -, h3⟩ := h
  exact (h3.1 9 k _ (if_pos hk)).1
theorem RX.nd (h : RX D E α F σ H) {k : Nat} (hk : k < nB σ) : va_at D vwCl (α 10 k, .inl (E 1, 6, .inl (bNeed σ k))) H := by
  obtain ⟨-, -, γ, -, h3⟩ := h
  exact (h3.1 10 k _ (if_pos hk)).1
theorem RX.gv (h : RX D E α F σ H) {k : Nat} (hk : k < nB σ) : va_at D vwCl (α 11 k, .inl (E 1, 6, .inl (bGiv σ k))) H := by
  obtain ⟨-, -, γ, -, h3⟩ := h
  exact (h3.1 11 k _ (if_pos hk)).1
end RXP
/-- the model's lists: players, bands, weddings -/
def mCnt (σ : St) : Nat → Nat
  | 0 => nP σ
  | 1 => nB σ
  | _ => nW σ
def mEl : Nat → Nat
  | 0 => 3
  | 1 => 9
  | _ => 5
def mArr (σ : St) : Nat → (Nat → Int32)
  | 0 => sKey σ
  | 1 => sEnergy σ
  | 2 => sMin σ
  | 3 => sPlayed σ
  | 4 => rHours σ
  | _ => rDrives σ
/-- a shape's number stands in a box of its own, or of the cache -/
def bMade (σ : St) (b : Nat) : Prop := 127 < bShape σ b
def cellM (E : Nat → Nat) (σ : St) (th ca : Int32) (sm : Int64) (γ : Gh) (β : Nat → Nat → Nat) : Nat → Nat → Option va_E
  | 0, j => if j = 0 then some (.inr (3, [.int th, .int (tod σ), .int ca, .ref (β 1 0), .ref (β 1 1), .ref (β 1 2), .ref (β 8 0), .ref (β 8 1), .ref (β 8 2), .ref (β 8 3), .ref (β 8 4), .ref (β 8 5), .long sm])) else none
  | 1, j => if j < 3 then some (.inr (13, [.int (nI (mCnt σ j)), .ref (β 2 j), .int (nI (mCnt σ j))])) else none
  | 2, j => if j < 3 ∧ γ.2.1 j ≠ 0 then some (arQ E (γ.2.1 j) (fun k => if k < mCnt σ j then some (β (mEl j) k) else γ.2.2 j k)) else none
  | 3, k => if k < nP σ then some (.inr (6, [.int (pIns σ k), .int (pSongs σ k), .int (nI (pHome σ k)), .int (pFee σ k), .int (pFeuds σ k), .int (pEarned σ k), .ref (β 4 k)])) else none
  | 4, k => if k < nP σ then some (arZ E 366 (pOff σ k)) else none
  | 5, k => if k < nW σ then some (.inr (9, [.int (nI (wBand σ k)), .int (nI (wDay σ k)), .int (nI (wTown σ k)), .int (wStart σ k), .int (wLen σ k), .int (wSongs σ k), .int (wTold σ k), .int (nI (wState σ k)), .int (wSet σ k), .int (wPrice σ k), .int (wLate σ k), .int (wPaid σ k)])) else none
  | 8, j => if j < 4 then some (arI E 16 (mArr σ j)) else if j < 6 then some (arI E 36 (mArr σ j)) else none
  | 9, b => if b < nB σ ∧ 127 < bShape σ b then some (.inr (14, [.int (bShape σ b)])) else none
  | _, _ => none
def mLs (E : Nat → Nat) (σ : St) (γ : Gh) (β : Nat → Nat → Nat) : Prop := (∀ j, j < 3 → mCnt σ j ≤ γ.2.1 j ∧ (γ.2.1 j ≤ 100 ∧ γ.2.1 j ≤ 10 + 2 * mCnt σ j) ∧ (γ.2.1 j = 0 → β 2 j = E 6)) ∧ ∀ b, b < nB σ → 1 ≤ bShape σ b ∧ (¬ 127 < bShape σ b → β 9 b = E (300 + (bShape σ b + 128).toNatClampNeg))
def RM (D : va_G) (E : Nat → Nat) (β : Nat → Nat → Nat) (F : Nat → Prop) (σ : St) (th ca : Int32) (sm : Int64) (H : Heap) : Prop := RI σ ∧ (∀ q, F q → E 0 ≤ q) ∧ ∃ γ : Gh, mLs E σ γ β ∧ Rep D (cellM E σ th ca sm γ β) β F H
theorem RM.kept {D : va_G} {E : Nat → Nat} {β : Nat → Nat → Nat} {F : Nat → Prop} {σ : St} {th ca : Int32} {sm : Int64} {H H1 : Heap} (h : RM D E β F σ th ca sm H) (hq : ∀ q : Nat, q < H.size → F q → H1[q]? = H[q]?) : RM D E β F σ th ca sm H1 := by
  obtain ⟨h1, h0, γ, h2, h3⟩ := h
  exact ⟨h1, h0, γ, h2, h3.kept hq⟩
section RMP
variable {D : va_G} {E : Nat → Nat} {β : Nat → Nat → Nat} {F : Nat → Prop} {σ : St} {th ca : Int32} {sm : Int64} {H : Heap}
theorem RM.nP10 (h : RM D E β F σ th ca sm H) : nP σ ≤ 10 := h.1.1
theorem RM.nB6 (h : RM D E β F σ th ca sm H) : nB σ ≤ 6 := h.1.2.1
theorem RM.nW14 (h : RM D E β F σ th ca sm H) : nW σ ≤ 14 := h.1.2.2.1
theorem RM.home (h : RM D E β F σ th ca sm H) {k : Nat} (hk : k < nP σ) : pHome σ k < 6 := h.1.2.2.2.1 k hk
theorem RM.town (h : RM D E β F σ th ca sm H) {k : Nat} (hk : k < nW σ) : wTown σ k < 6 := (h.1.2.2.2.2 k hk).1
theorem RM.band (h : RM D E β F σ th ca sm H) {k : Nat} (hk : k < nW σ) : wBand σ k < nB σ := (h.1.2.2.2.2 k hk).2.1
theorem RM.day (h : RM D E β F σ th ca sm H) {k : Nat} (hk : k < nW σ) : wDay σ k < 366 := (h.1.2.2.2.2 k hk).2.2.1
theorem RM.state (h : RM D E β F σ th ca sm H) {k : Nat} (hk : k < nW σ) : wState σ k < 4 := (h.1.2.2.2.2 k hk).2.2.2
theorem RM.ag (h : RM D E β F σ th ca sm H) : va_at D vwCl (β 0 0, .inr (3, [.int th, .int (tod σ), .int ca, .ref (β 1 0), .ref (β 1 1), .ref (β 1 2), .ref (β 8 0), .ref (β 8 1), .ref (β 8 2), .ref (β 8 3), .ref (β 8 4), .ref (β 8 5), .long sm])) H := by
  obtain ⟨-, -, γ, -, h3⟩ := h
  exact (h3.1 0 0 (.inr (3, [.int th, .int (tod σ), .int ca, .ref (β 1 0), .ref (β 1 1), .ref (β 1 2), .ref (β 8 0), .ref (β 8 1), .ref (β 8 2), .ref (β 8 3), .ref (β 8 4), .ref (β 8 5), .long sm])) rfl).1
theorem RM.lsm (h : RM D E β F σ th ca sm H) {j : Nat} (hj : j < 3) : ∃ (cap : Nat) (g : Nat → Option Nat), LR D E (β 1 j) (β 2 j) (mCnt σ j) cap (nI (mCnt σ j)) g H ∧ (∀ k, k < mCnt σ j → g k = some (β (mEl j) k)) ∧ cap ≤ 10 + 2 * mCnt σ j := by
  obtain ⟨-, -, γ, h2, h3⟩ := h
  obtain ⟨q1, q2, q3⟩ := h2.1 j hj
  refine ⟨γ.2.1 j, fun k => if k < mCnt σ j then some (β (mEl j) k) else γ.2.2 j k, ⟨(h3.1 1 j _ (if_pos hj)).1, q1, by omega, ?_⟩, fun k hk => if_pos hk, q2.2⟩
  by_cases hc : γ.2.1 j = 0
  · exact Or.inl ⟨hc, q3 hc⟩
  · exact Or.inr ⟨hc, (h3.1 2 j _ (if_pos ⟨hj, hc⟩)).1⟩
theorem RM.ls (h : RM D E β F σ th ca sm H) {j : Nat} (hj : j < 3) : ∃ (cap : Nat) (mc : Int32) (g : Nat → Option Nat), LR D E (β 1 j) (β 2 j) (mCnt σ j) cap mc g H ∧ ∀ k, k < mCnt σ j → g k = some (β (mEl j) k) := by
  obtain ⟨cap, g, h1, h2, -⟩ := h.lsm hj
  exact ⟨cap, _, g, h1, h2⟩
theorem RM.pl (h : RM D E β F σ th ca sm H) {k : Nat} (hk : k < nP σ) : va_at D vwCl (β 3 k, .inr (6, [.int (pIns σ k), .int (pSongs σ k), .int (nI (pHome σ k)), .int (pFee σ k), .int (pFeuds σ k), .int (pEarned σ k), .ref (β 4 k)])) H := by
  obtain ⟨-, -, γ, -, h3⟩ := h
  exact (h3.1 3 k _ (if_pos hk)).1
theorem RM.off (h : RM D E β F σ th ca sm H) {k : Nat} (hk : k < nP σ) : va_at D vwCl (β 4 k, .inl (E 2, 366, .inl (pOff σ k))) H := by
  obtain ⟨-, -, γ, -, h3⟩ := h
  exact (h3.1 4 k _ (if_pos hk)).1
theorem RM.wd (h : RM D E β F σ th ca sm H) {k : Nat} (hk : k < nW σ) : va_at D vwCl (β 5 k, .inr (9, [.int (nI (wBand σ k)), .int (nI (wDay σ k)), .int (nI (wTown σ k)), .int (wStart σ k), .int (wLen σ k), .int (wSongs σ k), .int (wTold σ k), .int (nI (wState σ k)), .int (wSet σ k), .int (wPrice σ k), .int (wLate σ k), .int (wPaid σ k)])) H := by
  obtain ⟨-, -, γ, -, h3⟩ := h
  exact (h3.1 5 k _ (if_pos hk)).1
theorem RM.a16 (h : RM D E β F σ th ca sm H) {j : Nat} (hj : j < 4) : va_at D vwCl (β 8 j, .inl (E 1, 16, .inl (mArr σ j))) H := by
  obtain ⟨-, -, γ, -, h3⟩ := h
  exact (h3.1 8 j _ (if_pos hj)).1
theorem RM.a36 (h : RM D E β F σ th ca sm H) {j : Nat} (hj : 4 ≤ j) (hj6 : j < 6) : va_at D vwCl (β 8 j, .inl (E 1, 36, .inl (mArr σ j))) H := by
  obtain ⟨-, -, γ, -, h3⟩ := h
  exact (h3.1 8 j (arI E 36 (mArr σ j)) (by simp only [cellM]; rw [if_neg (by omega), if_pos hj6])).1
theorem RM.ar0 (h : RM D E β F σ th ca sm H) : va_at D vwCl (β 8 0, .inl (E 1, 16, .inl (sKey σ))) H := h.a16 (j := 0) (by decide)
theorem RM.ar1 (h : RM D E β F σ th ca sm H) : va_at D vwCl (β 8 1, .inl (E 1, 16, .inl (sEnergy σ))) H := h.a16 (j := 1) (by decide)
theorem RM.ar2 (h : RM D E β F σ th ca sm H) : va_at D vwCl (β 8 2, .inl (E 1, 16, .inl (sMin σ))) H := h.a16 (j := 2) (by decide)
theorem RM.ar3 (h : RM D E β F σ th ca sm H) : va_at D vwCl (β 8 3, .inl (E 1, 16, .inl (sPlayed σ))) H := h.a16 (j := 3) (by decide)
theorem RM.ar4 (h : RM D E β F σ th ca sm H) : va_at D vwCl (β 8 4, .inl (E 1, 36, .inl (rHours σ))) H := h.a36 (j := 4) (by decide) (by decide)
theorem RM.ar5 (h : RM D E β F σ th ca sm H) : va_at D vwCl (β 8 5, .inl (E 1, 36, .inl (rDrives σ))) H := h.a36 (j := 5) (by decide) (by decide)
theorem RM.bx (h : RM D E β F σ th ca sm H) {b : Nat} (hb : b < nB σ) : 1 ≤ bShape σ b ∧ ((127 < bShape σ b ∧ va_at D vwCl (β 9 b, .inr (14, [.int (bShape σ b)])) H) ∨ (¬ 127 < bShape σ b ∧ β 9 b = E (300 + (bShape σ b + 128).toNatClampNeg))) := by
  obtain ⟨-, -, γ, h2, h3⟩ := h
  refine ⟨(h2.2 b hb).1, ?_⟩
  by_cases hc : 127 < bShape σ b
  · exact Or.inl ⟨hc, (h3.1 9 b _ (if_pos ⟨hb, hc⟩)).1⟩
  · exact Or.inr ⟨hc, (h2.2 b hb).2 hc⟩
end RMP
