-- PURE: the two lists of numberings make the same forms
abbrev PmD (n : Nat) (π : List Nat) : Prop := π.length = 4 ∧ (∀ i, i < 4 → π.getD i 0 < 4 ∧ π.idxOf (π.getD i 0) = i) ∧ (∀ j, j < 4 → π.idxOf j < 4 ∧ π.getD (π.idxOf j) 0 = j) ∧ (∀ i, i < n → π.getD i 0 < n) ∧ (∀ i, i < 4 → n ≤ i → π.idxOf i = i)
theorem PmD.pm {n : Nat} {π : List Nat} (h : PmD n π) : Pm n π := ⟨h.1, h.2.1, h.2.2.1, h.2.2.2.1, fun i a b => h.2.2.2.2 i b a⟩
theorem PX_pmD : ∀ n, n < 5 → ∀ π ∈ numA n n [] 0, PmD n π := by decide +kernel
theorem PM_pmD : ∀ n, n < 5 → ∀ π ∈ PMk n 256, PmD n π := by decide +kernel
theorem PX_perm : ∀ n, n < 5 → (numA n n [] 0).isPerm (PMk n 256) = true := by decide +kernel
theorem PX_pos : ∀ n, n < 5 → 0 < (numA n n [] 0).length ∧ 0 < (PMk n 256).length := by decide +kernel
theorem foldC {w : Wh} : ∀ (l : List (List Nat)) (b : Wh) (c : Nat), ∃ b1 c1, l.foldl (fstep w) (some (b, c)) = some (b1, c1) ∧ pk b1 ≤ pk b ∧ (∀ π ∈ l, pk b1 ≤ pk (trn π w)) ∧ (b1 = b ∨ ∃ π ∈ l, b1 = trn π w) ∧ c1 = (if pk b1 = pk b then c else 0) + (l.filter (fun π => pk (trn π w) == pk b1)).length
  | [], b, c => ⟨b, c, rfl, Nat.le_refl _, (fun π h => absurd h (by simp)), Or.inl rfl, (by rw [if_pos rfl]; rfl)⟩
  | a :: l, b, c => by
    rw [List.foldl_cons]
    by_cases h1 : pk (trn a w) < pk b
    · have e : fstep w (some (b, c)) a = some (trn a w, 1) := by show (if _ then _ else _) = _; rw [if_pos h1]
      rw [e]
      obtain ⟨b1, c1, g1, g2, g3, g4, g5⟩ := foldC l (trn a w) 1
      refine ⟨b1, c1, g1, by omega, ?_, ?_, ?_⟩
      · intro π hπ
        rcases List.mem_cons.mp hπ with h | h
        · rw [h]; exact g2
        · exact g3 π h
      · rcases g4 with h | ⟨π, h, h'⟩
        · exact Or.inr ⟨a, List.mem_cons_self .., h⟩
        · exact Or.inr ⟨π, List.mem_cons_of_mem _ h, h'⟩
      · rw [if_neg (by omega), g5, List.filter_cons]
        by_cases h2 : pk b1 = pk (trn a w)
        · rw [if_pos h2, if_pos (by simp [h2]), List.length_cons]; omega
        · rw [if_neg h2, if_neg (by simpa using fun z => h2 z.symm)]
    · by_cases h2 : pk (trn a w) = pk b
      · have e : fstep w (some (b, c)) a = some (b, c + 1) := by show (if _ then _ else _) = _; rw [if_neg h1, if_pos h2]
        rw [e]
        obtain ⟨b1, c1, g1, g2, g3, g4, g5⟩ := foldC l b (c + 1)
        refine ⟨b1, c1, g1, g2, ?_, ?_, ?_⟩
        · intro π hπ
          rcases List.mem_cons.mp hπ with h | h
          · rw [h, h2]; exact g2
          · exact g3 π h
        · rcases g4 with h | ⟨π, h, h'⟩
          · exact Or.inl h
          · exact Or.inr ⟨π, List.mem_cons_of_mem _ h, h'⟩
        · rw [g5, List.filter_cons]
          by_cases h3 : pk b1 = pk b
          · rw [if_pos h3, if_pos h3, if_pos (by simp [h2, h3]), List.length_cons]; omega
          · rw [if_neg h3, if_neg h3, if_neg (by simpa [h2] using fun z => h3 z.symm)]
      · have e : fstep w (some (b, c)) a = some (b, c) := by show (if _ then _ else _) = _; rw [if_neg h1, if_neg h2]
        rw [e]
        obtain ⟨b1, c1, g1, g2, g3, g4, g5⟩ := foldC l b c
        refine ⟨b1, c1, g1, g2, ?_, ?_, ?_⟩
        · intro π hπ
          rcases List.mem_cons.mp hπ with h | h
          · rw [h]; omega
          · exact g3 π h
        · rcases g4 with h | ⟨π, h, h'⟩
          · exact Or.inl h
          · exact Or.inr ⟨π, List.mem_cons_of_mem _ h, h'⟩
        · rw [g5, List.filter_cons, if_neg (show ¬ (pk (trn a w) == pk b1) = true by
            simp only [beq_iff_eq]; intro z; omega)]
theorem frmC {w : Wh} {ps : List (List Nat)} (h : 0 < ps.length) : (∃ π ∈ ps, (frm ps w).1 = trn π w) ∧ (∀ π ∈ ps, pk (frm ps w).1 ≤ pk (trn π w)) ∧ (frm ps w).2 = (ps.filter (fun π => pk (trn π w) == pk (frm ps w).1)).length := by
  cases ps with
  | nil => cases h
  | cons a l =>
    obtain ⟨b1, c1, g1, g2, g3, g4, g5⟩ := foldC (w := w) l (trn a w) 1
    have e : frm (a :: l) w = (b1, c1) := by
      unfold frm
      rw [List.foldl_cons, show fstep w none a = some (trn a w, 1) from rfl, g1]; rfl
    rw [e]
    refine ⟨?_, ?_, ?_⟩
    · rcases g4 with h | ⟨π, h, h'⟩
      · exact ⟨a, List.mem_cons_self .., h⟩
      · exact ⟨π, List.mem_cons_of_mem _ h, h'⟩
    · intro π hπ
      rcases List.mem_cons.mp hπ with h | h
      · rw [h]; exact g2
      · exact g3 π h
    · show c1 = ((a :: l).filter (fun π => pk (trn π w) == pk b1)).length
      rw [g5, List.filter_cons]
      by_cases h2 : pk b1 = pk (trn a w)
      · rw [if_pos h2, if_pos (by simp [h2]), List.length_cons]; omega
      · rw [if_neg h2, if_neg (by simpa using fun z => h2 z.symm)]; omega
theorem frm_perm {n : Nat} {w : Wh} {ps qs : List (List Nat)} (hp : List.Perm ps qs) (h0 : 0 < ps.length) (h1 : ∀ π ∈ ps, Pm n π) (hn : n ≤ 4) (hV : Vl n w) : frm ps w = frm qs w := by
  have hq0 : 0 < qs.length := by rw [← hp.length_eq]; exact h0
  have h2 : ∀ π ∈ qs, Pm n π := fun π h => h1 π (hp.mem_iff.mpr h)
  obtain ⟨⟨π, a1, a2⟩, a3, a4⟩ := frmC (w := w) h0
  obtain ⟨⟨τ, b1, b2⟩, b3, b4⟩ := frmC (w := w) hq0
  have e1 : pk (frm ps w).1 = pk (frm qs w).1 := by
    have c1 := a3 τ (hp.mem_iff.mpr b1)
    have c2 := b3 π (hp.mem_iff.mp a1)
    rw [← a2] at c2
    rw [← b2] at c1
    omega
  have e2 : (frm ps w).1 = (frm qs w).1 := pk_inj (frm_ok h0 h1 hV hn) (frm_ok hq0 h2 hV hn) e1
  have e3 : (frm ps w).2 = (frm qs w).2 := by
    rw [a4, b4, e1]
    exact (hp.filter _).length_eq
  exact Prod.ext e2 e3
theorem frm_cnt {w : Wh} {ps : List (List Nat)} (h0 : 0 < ps.length) (h24 : ps.length ≤ 24) : 0 < (frm ps w).2 ∧ (frm ps w).2 ≤ 24 := by
  obtain ⟨⟨π, a1, a2⟩, a3, a4⟩ := frmC (w := w) h0
  rw [a4]
  refine ⟨List.length_pos_of_mem (List.mem_filter.mpr ⟨a1, by rw [a2]; simp⟩), Nat.le_trans (List.length_filter_le _ _) h24⟩
