/-! array writes; cells are in the pictures' sets -/
set_option maxRecDepth 100000
abbrev MSt : Type := St × Int32 × Int32 × Int64
theorem cnt.p2 {a b : St} (h : cnt a b) {k : Nat} (hk : k < nP a) : k < nP b := by rw [← h.1]; exact hk
theorem cnt.b2 {a b : St} (h : cnt a b) {k : Nat} (hk : k < nB a) : k < nB b := by rw [← h.2.1]; exact hk
theorem cnt.w2 {a b : St} (h : cnt a b) {k : Nat} (hk : k < nW a) : k < nW b := by rw [← h.2.2]; exact hk
theorem bI_nar {b : Bool} : narrow .boolean (.int (bI b)) = .int (bI b) := by cases b <;> rfl
theorem vp_narZ {x : Int32} (h : narrow .boolean (.int x) = .int x) : vp_nar .boolean x = x := by unfold vp_nar; rw [h]
section PA
variable {p : Program} {l : Launch} {e : Env} {R : Room} {s : State} {m : MethodId} {args : Array Value} {below : List Frame} {meth : Method} {c : Code} {H : Heap} {locs : List Loc} {cells slots : Nat} {Q : State → Prop}
variable {pc : Nat} {ls : Array Slot} {rest : List Value} {D : va_G} {E : Nat → Nat} {Fr A : Nat → Prop} {cc : ByteArray}
theorem paI {a N k : Nat} {f : Nat → Int32} {x : Int32} (hx : p.tables.exec = Jvm.exec) (hb : c.code = cc) (hG : gE D E s H) (hS : xK Fr A s.heap H locs) (hat : va_at D vwCl (a, .inl (E 1, N, .inl f)) H) (hFr : fN Fr s.heap.size a) (hAa : fN A s.heap.size a) (hk : k < N) (hN : N < 2 ^ 31) (hdg : decode cc pc = .ok (.iastore, 1))
    (kk : ∀ (H1 : Heap) (locs1 : List Loc), va_at D vwCl (a, .inl (E 1, N, .inl (upd f k x))) H1 → H1.size = H.size → (∀ q : Nat, q ≠ a → H1[q]? = H[q]?) → xK Fr A s.heap H1 locs1 → W p l e R s m args below meth c H1 locs1 cells slots Q (F0 m (pc + 1) ls rest)) : W p l e R s m args below meth c H locs cells slots Q (F0 m pc ls (.int x :: .int (nI k) :: .ref a :: rest)) := by
  refine W.iast hx hb hat ((hG.1.2 0 _ rfl).1 N (fun j => .int (f j))) (fun q => by cases q) (by show ¬ (nI k < 0 ∨ (arrV _ _ _).slots.size ≤ _); rw [arrV_size]; exact vp_in_nI hk hN) rfl rfl hdg fun H1 e z oq => ?_
  refine kk H1 _ ?_ z oq (hS.put z oq hFr hAa)
  show H1[a]? = some (vp_cell _ _)
  rw [e, vp_cell_i, vp_cell_i, arrV_store, nI_clamp (by omega)]
  congr 2
  funext q
  by_cases hq : q = k
  · subst hq
    simp [updV, upd]
  · simp [updV, upd, hq]
theorem paZ {a N k : Nat} {f : Nat → Int32} {v : Int32} (hnar : narrow .boolean (.int v) = .int v) (hx : p.tables.exec = Jvm.exec) (hb : c.code = cc) (hG : gE D E s H) (hS : xK Fr A s.heap H locs) (hat : va_at D vwCl (a, .inl (E 2, N, .inl f)) H) (hFr : fN Fr s.heap.size a) (hAa : fN A s.heap.size a) (hk : k < N) (hN : N < 2 ^ 31) (hdg : decode cc pc = .ok (.bastore, 1))
    (kk : ∀ (H1 : Heap) (locs1 : List Loc), va_at D vwCl (a, .inl (E 2, N, .inl (upd f k v))) H1 → H1.size = H.size → (∀ q : Nat, q ≠ a → H1[q]? = H[q]?) → xK Fr A s.heap H1 locs1 → W p l e R s m args below meth c H1 locs1 cells slots Q (F0 m (pc + 1) ls rest)) : W p l e R s m args below meth c H locs cells slots Q (F0 m pc ls (.int v :: .int (nI k) :: .ref a :: rest)) := by
  refine W.zast hx hb hat ((hG.1.2 1 _ rfl).1 N (fun j => .int (f j))) (fun q => by cases q) (by show ¬ (nI k < 0 ∨ (arrV _ _ _).slots.size ≤ _); rw [arrV_size]; exact vp_in_nI hk hN) rfl rfl hdg fun H1 e z oq => ?_
  refine kk H1 _ ?_ z oq (hS.put z oq hFr hAa)
  show H1[a]? = some (vp_cell _ _)
  rw [e, vp_cell_i, vp_cell_i, arrV_store, nI_clamp (by omega), hnar]
  congr 2
  funext q
  by_cases hq : q = k
  · subst hq
    simp [updV, upd]
  · simp [updV, upd, hq]
end PA
section FP
variable {D : va_G} {E : Nat → Nat} {α β : Nat → Nat → Nat} {F : Nat → Prop} {σ : St} {th ca : Int32} {sm : Int64} {H : Heap}
theorem RX.agF (h : RX D E α F σ H) : F (α 0 0) := by
  obtain ⟨-, -, γ, -, h3⟩ := h
  exact (h3.1 0 0 _ rfl).2
theorem RX.plF (h : RX D E α F σ H) {k : Nat} (hk : k < nP σ) : F (α 3 k) := by
  obtain ⟨-, -, γ, -, h3⟩ := h
  exact (h3.1 3 k _ (if_pos hk)).2
theorem RX.ofF (h : RX D E α F σ H) {k : Nat} (hk : k < nP σ) : F (α 4 k) := by
  obtain ⟨-, -, γ, -, h3⟩ := h
  exact (h3.1 4 k _ (if_pos hk)).2
theorem RX.wdF (h : RX D E α F σ H) {k : Nat} (hk : k < nW σ) : F (α 5 k) := by
  obtain ⟨-, -, γ, -, h3⟩ := h
  exact (h3.1 5 k _ (if_pos hk)).2
theorem RX.lsF (h : RX D E α F σ H) {k : Nat} (hk : k < 4) : F (α 1 k) := by
  obtain ⟨-, -, γ, -, h3⟩ := h
  exact (h3.1 1 k _ (if_pos hk)).2
theorem RM.agF (h : RM D E β F σ th ca sm H) : F (β 0 0) := by
  obtain ⟨-, -, γ, -, h3⟩ := h
  exact (h3.1 0 0 _ rfl).2
theorem RM.plF (h : RM D E β F σ th ca sm H) {k : Nat} (hk : k < nP σ) : F (β 3 k) := by
  obtain ⟨-, -, γ, -, h3⟩ := h
  exact (h3.1 3 k _ (if_pos hk)).2
theorem RM.ofF (h : RM D E β F σ th ca sm H) {k : Nat} (hk : k < nP σ) : F (β 4 k) := by
  obtain ⟨-, -, γ, -, h3⟩ := h
  exact (h3.1 4 k _ (if_pos hk)).2
theorem RM.wdF (h : RM D E β F σ th ca sm H) {k : Nat} (hk : k < nW σ) : F (β 5 k) := by
  obtain ⟨-, -, γ, -, h3⟩ := h
  exact (h3.1 5 k _ (if_pos hk)).2
theorem RM.lsF (h : RM D E β F σ th ca sm H) {k : Nat} (hk : k < 3) : F (β 1 k) := by
  obtain ⟨-, -, γ, -, h3⟩ := h
  exact (h3.1 1 k _ (if_pos hk)).2
theorem RX.sgF (h : RX D E α F σ H) {k : Nat} (hk : k < 16) : F (α 6 k) := by
  obtain ⟨-, -, γ, -, h3⟩ := h
  exact (h3.1 6 k _ (if_pos hk)).2
theorem RX.rdF (h : RX D E α F σ H) : F (α 7 0) := by
  obtain ⟨-, -, γ, -, h3⟩ := h
  exact (h3.1 7 0 _ rfl).2
theorem RX.hrF (h : RX D E α F σ H) : F (α 8 0) := by
  obtain ⟨-, -, γ, -, h3⟩ := h
  exact (h3.1 8 0 _ rfl).2
theorem RX.drF (h : RX D E α F σ H) : F (α 8 1) := by
  obtain ⟨-, -, γ, -, h3⟩ := h
  exact (h3.1 8 1 _ rfl).2
theorem RX.shF (h : RX D E α F σ H) {k : Nat} (hk : k < nB σ) : F (α 9 k) := by
  obtain ⟨-, -, γ, -, h3⟩ := h
  exact (h3.1 9 k _ (if_pos hk)).2
theorem RX.gvF (h : RX D E α F σ H) {k : Nat} (hk : k < nB σ) : F (α 11 k) := by
  obtain ⟨-, -, γ, -, h3⟩ := h
  exact (h3.1 11 k _ (if_pos hk)).2
theorem RM.ar0F (h : RM D E β F σ th ca sm H) : F (β 8 0) := by
  obtain ⟨-, -, γ, -, h3⟩ := h
  exact (h3.1 8 0 _ rfl).2
theorem RM.ar1F (h : RM D E β F σ th ca sm H) : F (β 8 1) := by
  obtain ⟨-, -, γ, -, h3⟩ := h
  exact (h3.1 8 1 _ rfl).2
theorem RM.ar2F (h : RM D E β F σ th ca sm H) : F (β 8 2) := by
  obtain ⟨-, -, γ, -, h3⟩ := h
  exact (h3.1 8 2 _ rfl).2
theorem RM.ar3F (h : RM D E β F σ th ca sm H) : F (β 8 3) := by
  obtain ⟨-, -, γ, -, h3⟩ := h
  exact (h3.1 8 3 _ rfl).2
theorem RM.ar4F (h : RM D E β F σ th ca sm H) : F (β 8 4) := by
  obtain ⟨-, -, γ, -, h3⟩ := h
  exact (h3.1 8 4 _ rfl).2
theorem RM.ar5F (h : RM D E β F σ th ca sm H) : F (β 8 5) := by
  obtain ⟨-, -, γ, -, h3⟩ := h
  exact (h3.1 8 5 _ rfl).2
end FP
