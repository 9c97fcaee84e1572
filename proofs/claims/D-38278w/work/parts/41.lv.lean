/-! lists that a method makes -/
set_option maxRecDepth 100000
theorem lv_gd {L : List Nat} {i : Nat} (h : i < L.length) : L.getD i 0 = L[i] := by
  rw [List.getD_eq_getElem?_getD, List.getElem?_eq_getElem h]
  rfl
/-- an ArrayList at q0, its cells in lo .. hi -/
def LVa (D : va_G) (E : Nat → Nat) (lo hi q0 arr cap : Nat) (L : List Nat) (H : Heap) : Prop := ∃ (mo : Int32) (g : Nat → Option Nat), LR D E q0 arr L.length cap mo g H ∧ lo ≤ q0 ∧ q0 < hi ∧ (cap ≠ 0 → lo ≤ arr ∧ arr < hi ∧ q0 ≠ arr) ∧ cap ≤ 10 + 2 * L.length ∧ L.length ≤ 20 ∧ hi ≤ H.size ∧ ∀ i, i < L.length → g i = some (L.getD i 0)
def LV (D : va_G) (E : Nat → Nat) (lo hi q0 : Nat) (L : List Nat) (H : Heap) : Prop := ∃ arr cap : Nat, LVa D E lo hi q0 arr cap L H
def LVI (D : va_G) (E : Nat → Nat) (lo hi q0 : Nat) (K : List Nat) (H : Heap) : Prop := LV D E lo hi q0 (K.map fun k => E (300 + (k + 128))) H ∧ (∀ k ∈ K, k ≤ 127) ∧ K.length ≤ 16
def wdC (E : Nat → Nat) (σ : St) (k : Nat) : va_E := .inr (8, [.int (nI (wBand σ k)), .int (nI (wDay σ k)), .int (nI (wTown σ k)), .int (wStart σ k), .int (wLen σ k), .int (wSongs σ k), .int (wTold σ k), .ref (E (10 + wState σ k)), .int (wSet σ k), .int (wPrice σ k), .int (wPaid σ k), .int (wLate σ k)])
/-- copies of the first weddings -/
def LVW (D : va_G) (E : Nat → Nat) (lo hi q0 : Nat) (sn : St × Nat) (H : Heap) : Prop := ∃ (L : List Nat) (arr cap : Nat), L.length = sn.2 ∧ LVa D E lo hi q0 arr cap L H ∧ sn.2 ≤ 14 ∧ (∀ i, i < sn.2 → lo ≤ L.getD i 0 ∧ L.getD i 0 < hi ∧ L.getD i 0 ≠ q0 ∧ (cap ≠ 0 → L.getD i 0 ≠ arr) ∧ va_at D vwCl (L.getD i 0, wdC E sn.1 i) H) ∧ ∀ i j, i < sn.2 → j < sn.2 → L.getD i 0 = L.getD j 0 → i = j
section LVS
variable {D : va_G} {E : Nat → Nat} {lo hi q0 : Nat} {L K : List Nat} {sn : St × Nat} {H H1 : Heap}
theorem LVa.lt {arr cap : Nat} (h : LVa D E lo hi q0 arr cap L H) : hi ≤ H.size := by
  obtain ⟨_, _, -, -, -, -, -, -, h, -⟩ := h
  exact h
theorem LVa.kept {arr cap : Nat} (h : LVa D E lo hi q0 arr cap L H) (hq : ∀ q : Nat, lo ≤ q → q < hi → H1[q]? = H[q]?) (hz : H.size ≤ H1.size) : LVa D E lo hi q0 arr cap L H1 := by
  obtain ⟨mo, g, ⟨h1, h2, h3, h4⟩, h5, h6, h7, h8, h9, h10, h11⟩ := h
  refine ⟨mo, g, ⟨h1.kept (hq _ h5 h6), h2, h3, ?_⟩, h5, h6, h7, h8, h9, Nat.le_trans h10 hz, h11⟩
  rcases h4 with h4 | ⟨h4, h12⟩
  · exact Or.inl h4
  · exact Or.inr ⟨h4, h12.kept (hq _ (h7 h4).1 (h7 h4).2.1)⟩
theorem LVa.full {arr cap : Nat} (h : LVa D E lo hi q0 arr cap L H) : LVa D E lo H.size q0 arr cap L H := by
  obtain ⟨mo, g, h1, h5, h6, h7, h8, h9, h10, h11⟩ := h
  exact ⟨mo, g, h1, h5, by omega, fun z => by have := h7 z; omega, h8, h9, Nat.le_refl _, h11⟩
theorem LV.lt (h : LV D E lo hi q0 L H) : hi ≤ H.size := by
  obtain ⟨_, _, h⟩ := h
  exact h.lt
theorem LV.kept (h : LV D E lo hi q0 L H) (hq : ∀ q : Nat, lo ≤ q → q < hi → H1[q]? = H[q]?) (hz : H.size ≤ H1.size) : LV D E lo hi q0 L H1 := by
  obtain ⟨arr, cap, h⟩ := h
  exact ⟨arr, cap, h.kept hq hz⟩
theorem LV.full (h : LV D E lo hi q0 L H) : LV D E lo H.size q0 L H := by
  obtain ⟨arr, cap, h⟩ := h
  exact ⟨arr, cap, h.full⟩
theorem LVI.lt (h : LVI D E lo hi q0 K H) : hi ≤ H.size := h.1.lt
theorem LVI.kept (h : LVI D E lo hi q0 K H) (hq : ∀ q : Nat, lo ≤ q → q < hi → H1[q]? = H[q]?) (hz : H.size ≤ H1.size) : LVI D E lo hi q0 K H1 := ⟨h.1.kept hq hz, h.2⟩
theorem LVI.full (h : LVI D E lo hi q0 K H) : LVI D E lo H.size q0 K H := ⟨h.1.full, h.2⟩
theorem LVW.lt (h : LVW D E lo hi q0 sn H) : hi ≤ H.size := by
  obtain ⟨L, arr, cap, -, h, -⟩ := h
  exact h.lt
theorem LVW.kept (h : LVW D E lo hi q0 sn H) (hq : ∀ q : Nat, lo ≤ q → q < hi → H1[q]? = H[q]?) (hz : H.size ≤ H1.size) : LVW D E lo hi q0 sn H1 := by
  obtain ⟨L, arr, cap, h1, h2, h3, h4, h5⟩ := h
  exact ⟨L, arr, cap, h1, h2.kept hq hz, h3, fun i hi => ⟨(h4 i hi).1, (h4 i hi).2.1, (h4 i hi).2.2.1, (h4 i hi).2.2.2.1, (h4 i hi).2.2.2.2.kept (hq _ (h4 i hi).1 (h4 i hi).2.1)⟩, h5⟩
theorem LVW.full (h : LVW D E lo hi q0 sn H) : LVW D E lo H.size q0 sn H := by
  have hl := h.lt
  obtain ⟨L, arr, cap, h1, h2, h3, h4, h5⟩ := h
  exact ⟨L, arr, cap, h1, h2.full, h3, fun i hi => ⟨(h4 i hi).1, Nat.lt_of_lt_of_le (h4 i hi).2.1 hl, (h4 i hi).2.2⟩, h5⟩
theorem LVI.len (h : LVI D E lo hi q0 K H) : K.length ≤ 16 := h.2.2
/-- an empty list, just made -/
theorem LV.mk (h : va_at D vwCl (q0, .inr (13, [.int 0, .ref (E 6), .int 0])) H) (hl : lo ≤ q0) (hh : q0 < hi) (hz : hi ≤ H.size) : LV D E lo hi q0 [] H :=
  ⟨E 6, 0, 0, fun _ => none, ⟨h, Nat.le_refl _, by decide, Or.inl ⟨rfl, rfl⟩⟩, hl, hh, fun z => absurd rfl z, by decide, by decide, hz, fun i hi => absurd hi (by simp)⟩
theorem LVI.mk (h : va_at D vwCl (q0, .inr (13, [.int 0, .ref (E 6), .int 0])) H) (hl : lo ≤ q0) (hh : q0 < hi) (hz : hi ≤ H.size) : LVI D E lo hi q0 [] H := ⟨LV.mk h hl hh hz, (fun k hk => absurd hk List.not_mem_nil), by decide⟩
theorem LVW.mk {σ : St} (h : va_at D vwCl (q0, .inr (13, [.int 0, .ref (E 6), .int 0])) H) (hl : lo ≤ q0) (hh : q0 < hi) (hz : hi ≤ H.size) : LVW D E lo hi q0 (σ, 0) H := ⟨[], E 6, 0, rfl, ⟨0, fun _ => none, ⟨h, Nat.le_refl _, by decide, Or.inl ⟨rfl, rfl⟩⟩, hl, hh, fun z => absurd rfl z, by decide, by decide, hz, fun i hi => absurd hi (by simp)⟩, Nat.zero_le _, fun i hi => absurd hi (Nat.not_lt_zero _), fun i j hi => absurd hi (Nat.not_lt_zero _)⟩
theorem LV.recv {s : State} (hG : gE D E s H) (h : LV D E lo hi q0 L H) : ∃ cellB : Cell, H[q0]? = some cellB ∧ cellB.vm.isStatics = false ∧ s.vm.findClass RJ2 = some cellB.cls := by
  obtain ⟨arr, cap, mo, g, h1, -⟩ := h
  exact rcv hG cl_J2 h1.1
theorem LVW.recv {s : State} (hG : gE D E s H) (h : LVW D E lo hi q0 sn H) : ∃ cellB : Cell, H[q0]? = some cellB ∧ cellB.vm.isStatics = false ∧ s.vm.findClass RJ2 = some cellB.cls := by
  obtain ⟨L, arr, cap, -, h, -⟩ := h
  exact LV.recv hG ⟨arr, cap, h⟩
end LVS
theorem met_lv_size (l : Launch) (D : va_G) (E : Nat → Nat) {lo hi q0 : Nat} {L : List Nat} : PM l D E yJ2_size cJ2_size 1 (Option.some Jvm.ClassFile.FieldType.int) 0 0 [.ref q0] (LV D E lo hi q0 L) (some (.int (nI L.length))) :=
  PM.ex (ι := Nat × Nat × Int32 × (Nat → Option Nat)) (P2 := fun x H => LR D E q0 x.1 L.length x.2.1 x.2.2.1 x.2.2.2 H) (fun x => met_J2_size l D E) (fun H h => by
    obtain ⟨arr, cap, mo, g, h1, -⟩ := h
    exact ⟨(arr, cap, mo, g), h1⟩)
theorem met_lv_get (l : Launch) (D : va_G) (E : Nat → Nat) {lo hi q0 : Nat} {L : List Nat} (k : Nat) (hk : k < L.length) : PM l D E yJ2_get cJ2_get 2 (Option.some (Jvm.ClassFile.FieldType.object "java/lang/Object")) 2 43 [.ref q0, .int (nI k)] (LV D E lo hi q0 L) (some (.ref (L.getD k 0))) :=
  PM.ex (ι := { x : Nat × Nat × Int32 × (Nat → Option Nat) // x.2.2.2 k = some (L.getD k 0) }) (P2 := fun x H => LR D E q0 x.1.1 L.length x.1.2.1 x.1.2.2.1 x.1.2.2.2 H) (fun x => met_J2_get l D E k _ hk x.2) (fun H h => by
    obtain ⟨arr, cap, mo, g, h1, -, -, -, -, -, -, h2⟩ := h
    exact ⟨⟨(arr, cap, mo, g), h2 k hk⟩, h1⟩)
theorem met_lvi_size (l : Launch) (D : va_G) (E : Nat → Nat) {lo hi q0 : Nat} {K : List Nat} : PM l D E yJ2_size cJ2_size 1 (Option.some Jvm.ClassFile.FieldType.int) 0 0 [.ref q0] (LVI D E lo hi q0 K) (some (.int (nI K.length))) :=
  PM.ex (ι := Unit) (P2 := fun _ => LV D E lo hi q0 (K.map fun k => E (300 + (k + 128)))) (fun _ => by have h := met_lv_size l D E (lo := lo) (hi := hi) (q0 := q0) (L := K.map fun k => E (300 + (k + 128))); rw [List.length_map] at h; exact h) (fun H h => ⟨(), h.1⟩)
theorem met_lvi_get (l : Launch) (D : va_G) (E : Nat → Nat) {lo hi q0 : Nat} {K : List Nat} (k : Nat) (hk : k < K.length) : PM l D E yJ2_get cJ2_get 2 (Option.some (Jvm.ClassFile.FieldType.object "java/lang/Object")) 2 43 [.ref q0, .int (nI k)] (LVI D E lo hi q0 K) (some (.ref (E (300 + (K.getD k 0 + 128))))) := by
  have h := met_lv_get l D E (lo := lo) (hi := hi) (q0 := q0) (L := K.map fun k => E (300 + (k + 128))) k (by rw [List.length_map]; exact hk)
  have e : (K.map fun k => E (300 + (k + 128))).getD k 0 = E (300 + (K.getD k 0 + 128)) := by
    rw [lv_gd (by rw [List.length_map]; exact hk), List.getElem_map, lv_gd hk]
  rw [e] at h
  exact PM.ex (ι := Unit) (fun _ => h) (fun H h => ⟨(), h.1⟩)
theorem met_lvw_size (l : Launch) (D : va_G) (E : Nat → Nat) {lo hi q0 : Nat} {sn : St × Nat} : PM l D E yJ2_size cJ2_size 1 (Option.some Jvm.ClassFile.FieldType.int) 0 0 [.ref q0] (LVW D E lo hi q0 sn) (some (.int (nI sn.2))) :=
  PM.ex (ι := { L : List Nat // L.length = sn.2 }) (P2 := fun L => LV D E lo hi q0 L.1) (fun L => by have h := met_lv_size l D E (lo := lo) (hi := hi) (q0 := q0) (L := L.1); rw [L.2] at h; exact h) (fun H h => by
    obtain ⟨L, arr, cap, h1, h2, -⟩ := h
    exact ⟨⟨L, h1⟩, ⟨arr, cap, h2⟩⟩)

set_option maxHeartbeats 1000000 in
/-- one more element -/
theorem met_lva_add (l : Launch) (D : va_G) (E : Nat → Nat) (lo hi q0 arr cap : Nat) (L : List Nat) (z : Nat) (hz0 : z ≠ q0) (hza : cap ≠ 0 → z ≠ arr) (hn : L.length < 20) : GM l D E yJ2_add cJ2_add 2 (Option.some Jvm.ClassFile.FieldType.boolean) 6 150 1 100 [.ref q0, .ref z] (fun h => LVa D E lo hi q0 arr cap L h ∧ (∀ y ∈ L, oK D E y h ∧ y ≠ q0) ∧ oK D E z h ∧ E 0 ≤ lo) (fun q => q = q0 ∨ (q = arr ∧ cap ≠ 0)) (fun q => q = q0 ∨ (q = arr ∧ cap ≠ 0)) (fun sz v h => v = some (.int 1) ∧ ∃ arr2 cap2, LVa D E lo h.size q0 arr2 cap2 (L ++ [z]) h ∧ cap2 ≠ 0 ∧ ((arr2 = arr ∧ cap ≠ 0) ∨ sz ≤ arr2)) := by
  refine GM.ex (ι := Int32 × (Nat → Option Nat)) (P2 := fun x h => (LR D E q0 arr L.length cap x.1 x.2 h ∧ (∀ i y, i < L.length → x.2 i = some y → oK D E y h) ∧ oK D E z h ∧ E 0 ≤ q0 ∧ (cap ≠ 0 → E 0 ≤ arr)) ∧ (q0 ≠ arr ∧ cap ≤ 66 ∧ ∀ i y, i < L.length → x.2 i = some y → y ≠ q0)) (Fr1 := fun x q => q = q0 ∨ (q = arr ∧ cap ≠ 0)) (A1 := fun x q => q = q0 ∨ (q = arr ∧ cap ≠ 0)) (Post2 := fun x sz v h => v = some (.int 1) ∧ ∃ a2 cap2 g2, LR D E q0 a2 (L.length + 1) cap2 (x.1 + 1) g2 h ∧ (cap2 ≤ 100 ∧ (cap2 ≤ 2 * L.length + 10 ∨ cap2 = cap)) ∧ cap2 ≠ 0 ∧ (∀ i, i < L.length → g2 i = x.2 i) ∧ g2 L.length = some z ∧ ((a2 = arr ∧ cap ≠ 0) ∨ sz ≤ a2)) (fun x => ?_) (fun s H hG hP => ?_)
  · intro sz p e h1 h2 h3 s m args below h4 h5 h6 h7
    obtain ⟨p0, p1, p2, hp, c1, c2, c5⟩ := h6
    exact met_J2_add l D E q0 arr x.1 L.length cap x.2 z c1 c2 hz0 hza c5 sz p e h1 h2 h3 s m args below h4 h5 ⟨p0, p1, p2, hp⟩ h7
  · obtain ⟨⟨mo, g, hL, h5, h6, h7, h8, h9, h10, h11⟩, hel, hz, hE⟩ := hP
    have hgd : ∀ i y, i < L.length → g i = some y → y ∈ L := fun i y hi hy => by
      rw [h11 i hi, lv_gd hi] at hy
      cases hy
      exact List.getElem_mem hi
    have hnU : q0 ≠ arr := fun e => by
      by_cases hc0 : cap = 0
      · rcases hL.2.2.2 with ⟨-, h8⟩ | ⟨h8, -⟩
        · have h9 := hG.e6; omega
        · exact h8 hc0
      · exact (h7 hc0).2.2 e
    refine ⟨(mo, g), ⟨⟨hL, fun i y hi hy => (hel y (hgd i y hi hy)).1, hz, Nat.le_trans hE h5, fun hc0 => Nat.le_trans hE (h7 hc0).1⟩, hnU, by omega, fun i y hi hy => (hel y (hgd i y hi hy)).2⟩, fun q z => Or.inl z, fun q z => z, fun v H1 hP2 hz1 hk => ?_⟩
    obtain ⟨rfl, a2, cap2, g2, hL2, hcb2, hc2, hg2, hgn, ha2⟩ := hP2
    have hl2 : a2 < H1.size := by
      rcases hL2.2.2.2 with ⟨h, -⟩ | ⟨-, h⟩
      · exact absurd h hc2
      · exact h.lt
    have hq2 : q0 ≠ a2 := fun e => by
      rcases ha2 with ha2 | ha2
      · exact hnU (e.trans ha2.1)
      · have ha2 : H.size ≤ a2 := ha2; omega
    refine ⟨rfl, a2, cap2, ⟨mo + 1, g2, by rw [List.length_append]; exact hL2, h5, by omega, fun _ => ⟨?_, hl2, hq2⟩, by rw [List.length_append]; show cap2 ≤ 10 + 2 * (L.length + 1); have hcb2 : cap2 ≤ 100 ∧ (cap2 ≤ 2 * L.length + 10 ∨ cap2 = cap) := hcb2; omega, by rw [List.length_append]; show L.length + 1 ≤ 20; omega, Nat.le_refl _, fun i hi => ?_⟩, hc2, ha2⟩
    · rcases ha2 with ha2 | ha2
      · have := h7 ha2.2; have ha2 : a2 = arr := ha2.1; omega
      · have ha2 : H.size ≤ a2 := ha2; omega
    · rw [List.length_append] at hi
      have hi : i < L.length + 1 := hi
      by_cases hin : i < L.length
      · rw [hg2 i hin]
        show g i = _
        rw [h11 i hin, lv_gd hin, lv_gd (by rw [List.length_append]; omega), List.getElem_append_left hin]
      · have e : i = L.length := by omega
        subst e
        rw [hgn, lv_gd (by rw [List.length_append]; show _ < _ + 1; omega), List.getElem_append_right (Nat.le_refl _)]
        simp
theorem met_lv_add (l : Launch) (D : va_G) (E : Nat → Nat) (lo hi q0 : Nat) (L : List Nat) (z : Nat) (hz0 : z ≠ q0) (hzr : z < lo ∨ hi ≤ z) (hn : L.length < 20) : GM l D E yJ2_add cJ2_add 2 (Option.some Jvm.ClassFile.FieldType.boolean) 6 150 1 100 [.ref q0, .ref z] (fun h => LV D E lo hi q0 L h ∧ (∀ y ∈ L, oK D E y h ∧ y ≠ q0) ∧ oK D E z h ∧ E 0 ≤ lo) (fun q => lo ≤ q ∧ q < hi) (fun q => lo ≤ q ∧ q < hi) (fun sz v h => v = some (.int 1) ∧ LV D E lo h.size q0 (L ++ [z]) h) := by
  refine GM.ex (ι := { x : Nat × Nat // x.2 ≠ 0 → z ≠ x.1 }) (fun x => met_lva_add l D E lo hi q0 x.1.1 x.1.2 L z hz0 x.2 hn) (fun s H hG hP => ?_)
  obtain ⟨⟨arr, cap, hL⟩, hel, hz, hE⟩ := hP
  have h9 := hL
  obtain ⟨mo, g, hLR, h5, h6, h7, -⟩ := hL
  refine ⟨⟨(arr, cap), fun hc e => by have := h7 hc; have e : z = arr := e; omega⟩, ⟨h9, hel, hz, hE⟩, fun q z => Or.inl (z.elim (fun z => by omega) (fun z => by have := h7 z.2; have e : q = arr := z.1; omega)), fun q z => z.elim (fun z => by omega) (fun z => by have := h7 z.2; have e : q = arr := z.1; omega), fun v H1 hP2 hz1 hk => ?_⟩
  obtain ⟨e, a2, c2, h1, -, -⟩ := hP2
  exact ⟨e, a2, c2, h1⟩
theorem met_lvi_add (l : Launch) (D : va_G) (E : Nat → Nat) (lo hi q0 : Nat) (K : List Nat) (k : Nat) (hk : k ≤ 127) (hn : K.length < 16) : GM l D E yJ2_add cJ2_add 2 (Option.some Jvm.ClassFile.FieldType.boolean) 6 150 1 100 [.ref q0, .ref (E (300 + (k + 128)))] (fun h => LVI D E lo hi q0 K h ∧ E 0 ≤ lo) (fun q => lo ≤ q ∧ q < hi) (fun q => lo ≤ q ∧ q < hi) (fun sz v h => v = some (.int 1) ∧ LVI D E lo h.size q0 (K ++ [k]) h) := by
  by_cases hE9 : E (300 + (k + 128)) < E 0 ∧ E 0 ≤ lo ∧ lo ≤ q0
  · have hz0 : E (300 + (k + 128)) ≠ q0 := by omega
    refine GM.ex (ι := Unit) (fun _ => met_lv_add l D E lo hi q0 (K.map fun k => E (300 + (k + 128))) (E (300 + (k + 128))) hz0 (Or.inl (by omega)) (by rw [List.length_map]; omega)) (fun s H hG hP => ⟨(), ⟨hP.1.1, fun y hy => ?_, Or.inr (Or.inl ⟨k + 128, by omega, rfl⟩), hP.2⟩, fun q z => Or.inl z, fun q z => z, fun v H1 h2 hz hk9 => ?_⟩)
    · obtain ⟨x, hx, rfl⟩ := List.mem_map.mp hy
      have hx7 := hP.1.2.1 x hx
      have := hG.ebox (k := x + 128) (by omega)
      exact ⟨Or.inr (Or.inl ⟨x + 128, by omega, rfl⟩), by omega⟩
    · refine ⟨h2.1, by rw [List.map_append]; exact h2.2, fun x hx => ?_, by rw [List.length_append]; show K.length + 1 ≤ 16; omega⟩
      rcases List.mem_append.mp hx with hx | hx
      · exact hP.1.2.1 x hx
      · rw [List.mem_singleton.mp hx]; exact hk
  · refine GM.ex (ι := Empty) (P2 := fun x => nomatch x) (Fr1 := fun x => nomatch x) (A1 := fun x => nomatch x) (Post2 := fun x => nomatch x) (fun x => nomatch x) (fun s H hG hP => ?_)
    exfalso
    have h1 := hG.ebox (k := k + 128) (by omega)
    obtain ⟨⟨⟨_, _, _, _, -, h5, -⟩, -⟩, h6⟩ := hP
    omega
/-- a copy is put behind the others -/
theorem met_lvw_add (l : Launch) (D : va_G) (E : Nat → Nat) (lo hi q0 : Nat) (σ : St) (n z : Nat) (hz9 : hi ≤ z) (hn : n < 14) : GM l D E yJ2_add cJ2_add 2 (Option.some Jvm.ClassFile.FieldType.boolean) 6 150 1 100 [.ref q0, .ref z] (fun h => LVW D E lo hi q0 (σ, n) h ∧ va_at D vwCl (z, wdC E σ n) h ∧ E 0 ≤ lo) (fun q => lo ≤ q ∧ q < hi) (fun q => lo ≤ q ∧ q < hi) (fun sz v h => v = some (.int 1) ∧ LVW D E lo h.size q0 (σ, n + 1) h) := by
  by_cases hE9 : q0 < hi
  · have hz0 : z ≠ q0 := by omega
    refine GM.ex (ι := { x : List Nat × Nat × Nat // x.1.length = n ∧ (x.2.2 ≠ 0 → z ≠ x.2.1) }) (fun x => met_lva_add l D E lo hi q0 x.1.2.1 x.1.2.2 x.1.1 z hz0 x.2.2 (by rw [x.2.1]; omega)) (fun s H hG hP => ?_)
    obtain ⟨⟨L, arr, cap, h1, h2, h3, h4, h5⟩, hzc, hE⟩ := hP
    have h1 : L.length = n := h1
    have hA := h2
    obtain ⟨mo, g, -, g5, g6, g7, -⟩ := hA
    have hmem : ∀ y ∈ L, ∃ i, i < n ∧ L.getD i 0 = y := fun y hy => by
      obtain ⟨i, hi, rfl⟩ := List.getElem_of_mem hy
      exact ⟨i, by omega, lv_gd hi⟩
    refine ⟨⟨(L, arr, cap), h1, fun hc e => by have := g7 hc; have e : z = arr := e; omega⟩, ⟨h2, fun y hy => ?_, Or.inl ⟨_, _, hzc⟩, hE⟩, fun q z => Or.inl (z.elim (fun z => by omega) (fun z => by have := g7 z.2; have e : q = arr := z.1; omega)), fun q z => z.elim (fun z => by omega) (fun z => by have := g7 z.2; have e : q = arr := z.1; omega), fun v H1 hp hz hk9 => ?_⟩
    · obtain ⟨i, hi, rfl⟩ := hmem y hy
      exact ⟨Or.inl ⟨_, _, (h4 i hi).2.2.2.2⟩, (h4 i hi).2.2.1⟩
    · obtain ⟨hp1, a2, c2, hp2, hc2, ha2⟩ := hp
      have hga : ∀ i, i < n → (L ++ [z]).getD i 0 = L.getD i 0 := fun i hi => by
        rw [lv_gd (by rw [List.length_append]; omega), List.getElem_append_left (by omega), lv_gd (by omega)]
      have hgn : (L ++ [z]).getD n 0 = z := by
        rw [lv_gd (by rw [List.length_append, h1]; show n < n + 1; omega), List.getElem_append_right (by omega)]
        simp
      have hzl : z < H.size := hzc.lt
      have hl2 := h2.lt
      refine ⟨hp1, L ++ [z], a2, c2, by rw [List.length_append, h1]; rfl, hp2, by show n + 1 ≤ 14; omega, fun i hin => ?_, fun i j hin hjn hij => ?_⟩
      · show _ ≤ (L ++ [z]).getD i 0 ∧ (L ++ [z]).getD i 0 < _ ∧ (L ++ [z]).getD i 0 ≠ q0 ∧ (c2 ≠ 0 → (L ++ [z]).getD i 0 ≠ a2) ∧ va_at D vwCl ((L ++ [z]).getD i 0, wdC E σ i) H1
        by_cases hin2 : i < n
        · rw [hga i hin2]
          have h9 := h4 i hin2
          have h9l : L.getD i 0 < H.size := h9.2.2.2.2.lt
          refine ⟨h9.1, by omega, h9.2.2.1, fun _ e => ?_, h9.2.2.2.2.kept (hk9 _ h9l (fun e => e.elim (fun e => h9.2.2.1 e) (fun e => h9.2.2.2.1 e.2 e.1)))⟩
          rcases ha2 with ha2 | ha2
          · exact h9.2.2.2.1 ha2.2 (e.trans ha2.1)
          · have ha2 : H.size ≤ a2 := ha2; omega
        · have e : i = n := by have hin : i < n + 1 := hin; omega
          subst e
          rw [hgn]
          refine ⟨by omega, by omega, hz0, fun _ e => ?_, hzc.kept (hk9 _ hzl (fun e => e.elim (fun e => hz0 e) (fun e => by have := g7 e.2; have e : z = arr := e.1; omega)))⟩
          rcases ha2 with ha2 | ha2
          · have := g7 ha2.2; have ha3 : a2 = arr := ha2.1; omega
          · have ha2 : H.size ≤ a2 := ha2; omega
      · have hij : (L ++ [z]).getD i 0 = (L ++ [z]).getD j 0 := hij
        have hin : i < n + 1 := hin
        have hjn : j < n + 1 := hjn
        by_cases hin2 : i < n
        · by_cases hjn2 : j < n
          · rw [hga i hin2, hga j hjn2] at hij
            exact h5 i j hin2 hjn2 hij
          · have e : j = n := by omega
            subst e
            rw [hga i hin2, hgn] at hij
            have := (h4 i hin2).2.1
            omega
        · have e : i = n := by omega
          subst e
          by_cases hjn2 : j < i
          · rw [hga j hjn2, hgn] at hij
            have := (h4 j hjn2).2.1
            omega
          · omega
  · refine GM.ex (ι := Empty) (P2 := fun x => nomatch x) (Fr1 := fun x => nomatch x) (A1 := fun x => nomatch x) (Post2 := fun x => nomatch x) (fun x => nomatch x) (fun s H hG hP => ?_)
    exfalso
    obtain ⟨⟨L, _, _, -, ⟨_, _, -, -, h5, -⟩, -⟩, -⟩ := hP
    omega

