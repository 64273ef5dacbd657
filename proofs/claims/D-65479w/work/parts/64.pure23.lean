-- PURE: levels, at the beginning and through runs
theorem bgS_iv {ps : List (List Nat)} {B : Nat → Bool} {n room : Nat} {σ : ES} (h : SI n room σ) (hv : IV σ) (h0 : 0 < ps.length) (h24 : ps.length ≤ 24) (hr : 0 < room) : IV (bgS ps B n room σ) := by
  obtain ⟨E, S, md, ag, ov⟩ := σ
  by_cases he : E.length = 0
  · obtain rfl : E = [] := List.length_eq_zero_iff.mp he
    obtain rfl : S = [] := List.length_eq_zero_iff.mp (Nat.le_zero.mp h.2.2.1)
    have e : bgS ps B n room ([], [], md, ag, ov) = ([((frm ps w0A).1, -1, -1, 0, (frm ps w0A).2)], [], md, ag, if badB n B w0A = true then 1 else 0) := by
      unfold bgS; dsimp only; rw [bg_nil hr]
    rw [e]
    have hk0 : ∀ k, k < 1 → k = 0 := fun k hk => by omega
    refine ⟨fun k hk => ?_, fun k hk => ?_, fun i j hij hj => ?_, fun _ k hk => ?_, fun k hk => absurd hk (Nat.not_lt_zero _), fun hz => absurd hz (Nat.succ_ne_zero _)⟩
    · rw [hk0 k hk]; exact Or.inl ⟨rfl, rfl⟩
    · rw [hk0 k hk]; exact frm_cnt h0 h24
    · have hj0 := hk0 j hj
      rw [hj0, hk0 i (by omega)]; exact Nat.le_refl _
    · rw [hk0 k hk]; exact Nat.zero_le _
  · have e : bgS ps B n room (E, S, md, ag, ov) = (E, S, md, ag, ov) := by
      unfold bgS; dsimp only; rw [bg_some he]
    rw [e]; exact hv
theorem rnA_iv {ps : List (List Nat)} {B : Nat → Bool} {n room : Nat} {rs : List Rl} (h0 : 0 < ps.length) (h24 : ps.length ≤ 24) (hp : ∀ π ∈ ps, Pm n π) (hn4 : n ≤ 4) (hR : ∀ r ∈ rs, RlOK r) (hr : rs.length ≤ 40) : ∀ f (σ : ES), SI n room σ → IV σ → IV (rnA ps B n room rs f σ)
  | 0, _, _, hv => hv
  | f + 1, σ, h, hv => by
    show IV (if σ.2.2.2.2 = 0 ∧ σ.2.1.length < σ.1.length then rnA ps B n room rs f (goS ps B n room rs σ) else σ)
    split
    · rename_i hc
      exact rnA_iv h0 h24 hp hn4 hR hr f _ (goS_ok h h0 hp hn4 hR hc.2).1 (goS_iv h hv h0 h24 hp hn4 hR hr hc.2)
    · exact hv
/-- the entries of a bad whole are there -/
theorem SI.pos {n room : Nat} {σ : ES} (h : SI n room σ) (ho : σ.2.2.2.2 = 1) : 0 < σ.1.length := by
  rcases Nat.eq_zero_or_pos σ.1.length with hz | hz
  · have := h.2.2.2 hz; omega
  · exact hz
