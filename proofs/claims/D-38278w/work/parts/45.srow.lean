/-! rows of songs: immutable, in a region of the heap -/
set_option maxRecDepth 100000
def rowMin (mi : Nat → Int32) : List Nat → Int32
  | [] => 0
  | k :: t => mi k + rowMin mi t
/-- an Optional at o that holds a row (none, if it is empty), its objects in lo .. hi -/
def SRo (D : va_G) (E : Nat → Nat) (lo hi : Nat) (mi : Nat → Int32) : List Nat → Nat → Heap → Prop
  | [], o, _ => o = E 7
  | k :: t, o, H => ∃ a o' : Nat, (lo ≤ o ∧ o < hi) ∧ (lo ≤ a ∧ a < hi) ∧ va_at D vwCl (o, .inr (16, [.ref a])) H ∧ va_at D vwCl (a, .inr (11, [.int (nI k), .ref o', .int (rowMin mi (k :: t))])) H ∧ SRo D E lo hi mi t o' H
def OP (D : va_G) (E : Nat → Nat) (lo hi : Nat) (mi : Nat → Int32) (ks : List Nat) (o : Nat) (H : Heap) : Prop := SRo D E lo hi mi ks o H ∧ hi ≤ H.size
section SRS
variable {D : va_G} {E : Nat → Nat} {lo hi hi2 mid q0 o a k : Nat} {mi : Nat → Int32} {ks t : List Nat} {H H1 : Heap}
theorem SRo.kept : ∀ {ks : List Nat} {o : Nat}, SRo D E lo hi mi ks o H → (∀ q : Nat, lo ≤ q → q < hi → H1[q]? = H[q]?) → SRo D E lo hi mi ks o H1
  | [], _, h, _ => h
  | _ :: _, _, ⟨a, o', h1, h2, h3, h4, h5⟩, hq => ⟨a, o', h1, h2, h3.kept (hq _ h1.1 h1.2), h4.kept (hq _ h2.1 h2.2), SRo.kept h5 hq⟩
theorem SRo.up : ∀ {ks : List Nat} {o : Nat}, SRo D E lo hi mi ks o H → hi ≤ hi2 → SRo D E lo hi2 mi ks o H
  | [], _, h, _ => h
  | _ :: _, _, ⟨a, o', h1, h2, h3, h4, h5⟩, hq => ⟨a, o', ⟨h1.1, by omega⟩, ⟨h2.1, by omega⟩, h3, h4, SRo.up h5 hq⟩
theorem OP.lt (h : OP D E lo hi mi ks o H) : hi ≤ H.size := h.2
theorem OP.kept (h : OP D E lo hi mi ks o H) (hq : ∀ q : Nat, lo ≤ q → q < hi → H1[q]? = H[q]?) (hz : H.size ≤ H1.size) : OP D E lo hi mi ks o H1 := ⟨h.1.kept hq, Nat.le_trans h.2 hz⟩
theorem OP.full (h : OP D E lo hi mi ks o H) : OP D E lo H.size mi ks o H := ⟨h.1.up h.2, Nat.le_refl _⟩
theorem OP.nil (h : hi ≤ H.size) : OP D E lo hi mi [] (E 7) H := ⟨rfl, h⟩
theorem OP.recv {s : State} (hG : gE D E s H) (h : OP D E lo hi mi ks o H) : ∃ cellB : Cell, H[o]? = some cellB ∧ cellB.vm.isStatics = false ∧ s.vm.findClass RJ20 = some cellB.cls := by
  cases ks with
  | nil =>
    have e : o = E 7 := h.1
    rw [e]
    obtain ⟨c, h1, h2, h3, -⟩ := hG.2.2.2.2.2.2.2.2.2.2.2.1
    exact ⟨c, h1, h2, h3⟩
  | cons k t =>
    obtain ⟨a, o', h1, h2, h3, h4, h5⟩ := h.1
    exact rcv hG cl_J20 h3
theorem OP.oK {s : State} (h : OP D E lo hi mi ks o H) : oK D E o H := by
  cases ks with
  | nil => exact Or.inr (Or.inr h.1)
  | cons k t =>
    obtain ⟨a, o', h1, h2, h3, h4, h5⟩ := h.1
    exact Or.inl ⟨_, _, h3⟩
/-- one that is there -/
theorem OP.there (h : OP D E lo hi mi ks o H) (hk : ks.isEmpty = false) : ∃ (a o' k : Nat) (t : List Nat), ks = k :: t ∧ va_at D vwCl (o, .inr (16, [.ref a])) H ∧ va_at D vwCl (a, .inr (11, [.int (nI k), .ref o', .int (rowMin mi ks)])) H ∧ OP D E lo hi mi t o' H := by
  cases ks with
  | nil => cases hk
  | cons k t =>
    obtain ⟨a, o', h1, h2, h3, h4, h5⟩ := h.1
    exact ⟨a, o', k, t, rfl, h3, h4, h5, h.2⟩
theorem OP.cons (h : OP D E lo hi mi t o H) (ha : va_at D vwCl (a, .inr (11, [.int (nI k), .ref o, .int (rowMin mi (k :: t))])) H) {o2 : Nat} (ho : va_at D vwCl (o2, .inr (16, [.ref a])) H) (hal : hi ≤ a) (hol : hi ≤ o2) (hlo : lo ≤ hi) : OP D E lo H.size mi (k :: t) o2 H :=
  ⟨⟨a, o, ⟨Nat.le_trans hlo hol, ho.lt⟩, ⟨Nat.le_trans hlo hal, ha.lt⟩, ho, ha, h.1.up h.2⟩, Nat.le_refl _⟩
/-- a list of such Optionals; the list's own cells in lo .. mid -/
def RW (D : va_G) (E : Nat → Nat) (lo mid hi q0 : Nat) (mi : Nat → Int32) (Ls : List (List Nat)) (H : Heap) : Prop := ∃ (L : List Nat) (arr cap : Nat), L.length = Ls.length ∧ LVa D E lo mid q0 arr cap L H ∧ mid ≤ hi ∧ hi ≤ H.size ∧ ∀ i, i < Ls.length → SRo D E mid hi mi (Ls.getD i []) (L.getD i 0) H
theorem RW.lt {Ls : List (List Nat)} (h : RW D E lo mid hi q0 mi Ls H) : hi ≤ H.size := by
  obtain ⟨_, _, _, -, -, -, h, -⟩ := h
  exact h
theorem RW.kept {Ls : List (List Nat)} (h : RW D E lo mid hi q0 mi Ls H) (hq : ∀ q : Nat, lo ≤ q → q < hi → H1[q]? = H[q]?) (hz : H.size ≤ H1.size) : RW D E lo mid hi q0 mi Ls H1 := by
  obtain ⟨L, arr, cap, h1, h2, h3, h4, h5⟩ := h
  have hlm : lo ≤ mid := by obtain ⟨_, _, -, g1, g2, -⟩ := h2; omega
  exact ⟨L, arr, cap, h1, h2.kept (fun q g1 g2 => hq q g1 (by omega)) hz, h3, Nat.le_trans h4 hz, fun i hi => (h5 i hi).kept (fun q g1 g2 => hq q (by omega) g2)⟩
theorem RW.full {Ls : List (List Nat)} (h : RW D E lo mid hi q0 mi Ls H) : RW D E lo mid H.size q0 mi Ls H := by
  obtain ⟨L, arr, cap, h1, h2, h3, h4, h5⟩ := h
  exact ⟨L, arr, cap, h1, h2, by omega, Nat.le_refl _, fun i hi => (h5 i hi).up h4⟩
theorem RW.recv {Ls : List (List Nat)} {s : State} (hG : gE D E s H) (h : RW D E lo mid hi q0 mi Ls H) : ∃ cellB : Cell, H[q0]? = some cellB ∧ cellB.vm.isStatics = false ∧ s.vm.findClass RJ2 = some cellB.cls := by
  obtain ⟨L, arr, cap, -, h, -⟩ := h
  exact LV.recv hG ⟨arr, cap, h⟩
end SRS
/-- which of two goes ahead -/
def aheadL (mi : Nat → Int32) : List Nat → List Nat → Bool
  | k :: t, j :: u => if rowMin mi (k :: t) = rowMin mi (j :: u) then (if nI k = nI j then (match t, u with
    | [], [] => false
    | [], _ :: _ => true
    | _ :: _, [] => false
    | t, u => aheadL mi t u) else (if nI j ≤ nI k then false else true)) else (if rowMin mi (k :: t) ≤ rowMin mi (j :: u) then false else true)
  | _, _ => false
def betterL (mi : Nat → Int32) (ks js : List Nat) : List Nat := if ks.isEmpty then js else if js.isEmpty then ks else if aheadL mi js ks then js else ks
