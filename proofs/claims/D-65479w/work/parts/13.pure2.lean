-- PURE: the state of an insertion under way
def AddI (f : Nat → Int32) (o : Nat) (cs : List Nat) (c k : Nat) (g : Nat → Int32) : Prop :=
  k ≤ cs.length ∧ (∀ i, i < k → g (o + i) = nI (cs.getD i 0)) ∧ (∀ i, k ≤ i → i < cs.length → g (o + i + 1) = nI (cs.getD i 0)) ∧ (∀ i, k ≤ i → i < cs.length → c < cs.getD i 0) ∧ (∀ i, i < o → g i = f i)
theorem AddI.init {f : Nat → Int32} {o c : Nat} {cs : List Nat} (h : Cds f o cs) : AddI f o cs c cs.length f :=
  ⟨Nat.le_refl _, fun i hi => h i hi, fun i h1 h2 => absurd h2 (by omega), fun i h1 h2 => absurd h2 (by omega), fun _ _ => rfl⟩
theorem AddI.rd {f g : Nat → Int32} {o c k : Nat} {cs : List Nat} (h : AddI f o cs c k g) (hk : 0 < k) {j : Nat} (hj : j = o + (k - 1)) : g j = nI (cs.getD (k - 1) 0) := by
  rw [hj]; exact h.2.1 (k - 1) (by omega)
theorem AddI.step {f g : Nat → Int32} {o c k j : Nat} {cs : List Nat} (h : AddI f o cs c k g) (hk : 0 < k) (hc : c < cs.getD (k - 1) 0) (hj : j = o + k) : AddI f o cs c (k - 1) (upd g j (nI (cs.getD (k - 1) 0))) := by
  obtain ⟨h1, h2, h3, h4, h5⟩ := h
  subst hj
  refine ⟨by omega, fun i hi => ?_, fun i hi hl => ?_, fun i hi hl => ?_, fun i hi => ?_⟩
  · rw [upd, if_neg (by omega)]; exact h2 i (by omega)
  · by_cases he : i = k - 1
    · rw [upd, if_pos (by omega), he]
    · rw [upd, if_neg (by omega)]; exact h3 i (by omega) hl
  · by_cases he : i = k - 1
    · rw [he]; exact hc
    · exact h4 i (by omega) hl
  · rw [upd, if_neg (by omega)]; exact h5 i hi
theorem AddI.fin {f g : Nat → Int32} {o c k j : Nat} {cs : List Nat} (hs : Srt cs) (h : AddI f o cs c k g) (h0 : 0 < k → cs.getD (k - 1) 0 ≤ c) (hj : j = o + k) : Cds (upd g j (nI c)) o (ins c cs) ∧ ∀ i, i < o → upd g j (nI c) i = f i := by
  obtain ⟨h1, h2, h3, h4, h5⟩ := h
  subst hj
  exact ⟨ins_row hs h1 h0 h4 h2 h3, fun i hi => by rw [upd, if_neg (by omega)]; exact h5 i hi⟩
theorem Cds.upd {f : Nat → Int32} {o j : Nat} {v : Int32} {cs : List Nat} (h : Cds f o cs) (hj : j < o ∨ o + cs.length ≤ j) : Cds (upd f j v) o cs := fun i hi => by
  rw [_root_.Jvm.Pilot.CStateExploreLaw_law_r9785_3acd51.upd, if_neg (by omega)]; exact h i hi
