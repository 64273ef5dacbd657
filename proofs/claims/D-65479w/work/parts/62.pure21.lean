-- PURE: levels while exploring
def IVf (E : List Ent) (fr : Nat) : Prop := LIa E ∧ ALa E ∧ LMa E ∧ fr < E.length ∧ ∀ k, k < E.length → lvE E k ≤ lvE E fr + 1
theorem lv_snoc_lt {E : List Ent} {e : Ent} {k : Nat} (h : k < E.length) : lvE (E ++ [e]) k = lvE E k ∧ frE (E ++ [e]) k = frE E k := by
  unfold lvE frE; rw [getD_snoc_lt h]; exact ⟨rfl, rfl⟩
theorem lv_snoc_eq {E : List Ent} {e : Ent} : lvE (E ++ [e]) E.length = e.2.2.2.1 ∧ frE (E ++ [e]) E.length = e.2.1 := by
  unfold lvE frE; rw [getD_snoc_eq]; exact ⟨rfl, rfl⟩
theorem IVf.snoc {E : List Ent} {fr sc : Nat} {b : Wh} {ru : Int32} (h : IVf E fr) (hsc : 0 < sc ∧ sc ≤ 24) : IVf (E ++ [(b, nI fr, ru, lvE E fr + 1, sc)]) fr := by
  obtain ⟨h1, h2, h3, h4, h5⟩ := h
  have hl : (E ++ [((b, nI fr, ru, lvE E fr + 1, sc) : Ent)]).length = E.length + 1 := by rw [List.length_append]; rfl
  refine ⟨fun k hk => ?_, fun k hk => ?_, fun i j hij hj => ?_, by omega, fun k hk => ?_⟩
  · rw [hl] at hk
    by_cases he : k = E.length
    · subst he
      rw [(lv_snoc_eq (E := E)).1, (lv_snoc_eq (E := E)).2]
      exact Or.inr ⟨fr, h4, rfl, by rw [(lv_snoc_lt h4).1]⟩
    · have hk' : k < E.length := by omega
      rw [(lv_snoc_lt hk').1, (lv_snoc_lt hk').2]
      rcases h1 k hk' with h | ⟨i, a, c, d⟩
      · exact Or.inl h
      · exact Or.inr ⟨i, a, c, by rw [(lv_snoc_lt (show i < E.length by omega)).1]; exact d⟩
  · rw [hl] at hk
    by_cases he : k = E.length
    · subst he
      rw [getD_snoc_eq]; exact hsc
    · rw [getD_snoc_lt (by omega)]; exact h2 k (by omega)
  · rw [hl] at hj
    by_cases he : j = E.length
    · subst he
      rw [(lv_snoc_eq (E := E)).1]
      by_cases hi : i = E.length
      · rw [hi, (lv_snoc_eq (E := E)).1]; exact Nat.le_refl _
      · rw [(lv_snoc_lt (show i < E.length by omega)).1]; exact h5 i (by omega)
    · rw [(lv_snoc_lt (show i < E.length by omega)).1, (lv_snoc_lt (show j < E.length by omega)).1]; exact h3 i j hij (by omega)
  · rw [hl] at hk
    rw [(lv_snoc_lt h4).1]
    by_cases he : k = E.length
    · subst he
      rw [(lv_snoc_eq (E := E)).1]; exact Nat.le_refl _
    · rw [(lv_snoc_lt (show k < E.length by omega)).1]; exact h5 k (by omega)
section IVS
variable {ps : List (List Nat)} {B : Nat → Bool} {n room : Nat} {w : Wh} {fr : Nat}
theorem come_iv {E : List Ent} {ag : Nat} {w1 : Wh} {ru : Int32} (h : IVf E fr) (h0 : 0 < ps.length) (h24 : ps.length ≤ 24) (hE : E.length ≤ 8192) : IVf (comeA ps B n room E ag w1 (nI fr) ru).1 fr := by
  unfold comeA
  split
  · exact h
  · split
    · exact h
    · have hl : lvA E (nI fr) = lvE E fr + 1 := by
        have := h.2.2.2.1
        unfold lvA
        rw [if_neg (nI_neg (by omega)), nI_clamp (by omega)]; rfl
      show IVf (E ++ [((frm ps w1).1, nI fr, ru, lvA E (nI fr), (frm ps w1).2)]) fr
      rw [hl]
      exact h.snoc (frm_cnt h0 h24)
theorem step_iv {ru nd : Nat} {R : Rl} {oc : Option Nat} {σ : E5} (h : IVf σ.1 fr) (h0 : 0 < ps.length) (h24 : ps.length ≤ 24) (hE : σ.1.length ≤ 8192) : IVf (stepA ps B n room w fr ru nd R oc σ).1 fr := by
  unfold stepA
  split
  · cases mkW n w nd R.2.2.1 R.2.2.2 oc with
    | none => exact h
    | some w1 => exact come_iv h h0 h24 hE
  · exact h
end IVS
