/-! small pure facts that the walks ask for -/
def ibit (x : Int32) (i : Nat) : Bool := x.toBitVec.getLsbD i
/-- how many bits are set -/
def popc (x : Int32) : Nat := ((List.range 32).filter (ibit x)).length
theorem cb_A1 {a b : Int32} (h : a < b) : ¬ b < a := by
  simp only [Int32.lt_iff_toInt_lt] at *
  omega
theorem cb_A2 {a b : Int32} (h : a = b) : ¬ b < a := by
  subst h
  simp only [Int32.lt_iff_toInt_lt]
  omega
theorem cb_B1 {a b : Int32} {P : Prop} (h : a < b) : b = a → P := by
  intro e
  subst e
  simp only [Int32.lt_iff_toInt_lt] at h
  omega
theorem cb_B2 {k q : Nat} (h : ¬ nI k ≤ nI q) (hk : k < 2 ^ 31) (hq : q < 2 ^ 31) : q ≤ k := by
  rw [nI_leI hk hq] at h
  omega
def fX1_size_L4' : Nat → Int32 → Int32 → Option Int32
  | 0, _, _ => none
  | n + 1, a1, a2 => if a2 = 0 then some a1 else fX1_size_L4' n (a1 + 1) (a2 &&& (a2 - 1))
theorem bx_ix {x : Int32} (h0 : 1 ≤ x) (h1 : ¬ 127 < x) : (x + 128).toNatClampNeg < 256 ∧ vb_c (x + 128).toNatClampNeg = x := by
  obtain ⟨j, hj, rfl⟩ : ∃ j : Nat, j ≤ 127 ∧ x = nI j := nI_of2 (M := 127) (n := 127) (by decide) (fun h => by
    simp only [Int32.lt_iff_toInt_lt, Int32.le_iff_toInt_le] at h h0
    have e1 : (1 : Int32).toInt = 1 := by decide
    have e0 : (0 : Int32).toInt = 0 := by decide
    omega) (by
    simp only [Int32.lt_iff_toInt_lt, Int32.le_iff_toInt_le] at h1 ⊢
    omega)
  have e : nI j + 128 = nI (j + 128) := nI_add j 128
  rw [e, nI_clamp (by omega)]
  refine ⟨by omega, ?_⟩
  show nI (j + 128) - nI 128 = nI j
  rw [pk_sub (by omega), Nat.add_sub_cancel]
theorem nlt_of {k q : Nat} (hk : k < 2 ^ 31) (hq : q < 2 ^ 31) (h : ¬ nI k ≤ nI q) : q < k := by
  rw [nI_leI hk hq] at h
  omega
theorem sw6 {q : Nat} (h : q < 9) (c1 : ¬ nI q = 6) (c2 : ¬ nI q = 7) (c3 : ¬ nI q = 8) : q < 6 := by
  rcases Nat.lt_or_ge q 6 with h1 | h1
  · exact h1
  · rcases (show q = 6 ∨ q = 7 ∨ q = 8 by omega) with rfl | rfl | rfl
    · exact absurd rfl c1
    · exact absurd rfl c2
    · exact absurd rfl c3
