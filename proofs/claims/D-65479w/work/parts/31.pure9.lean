-- PURE: the exploration as a whole
/-- entries, steps of those gone through, steps in all, how often one came again, over -/
abbrev ES : Type := List Ent × List Nat × Nat × Nat × Nat
def w0A : Wh := ([0, 0, 0, 0], [])
def bgA (ps : List (List Nat)) (B : Nat → Bool) (n room : Nat) (E : List Ent) (ag ov : Nat) : List Ent × Nat × Nat := if E.length = 0 then comeA ps B n room E ag w0A (-1) (-1) else (E, ag, ov)
def bgS (ps : List (List Nat)) (B : Nat → Bool) (n room : Nat) (σ : ES) : ES := ((bgA ps B n room σ.1 σ.2.2.2.1 σ.2.2.2.2).1, σ.2.1, σ.2.2.1, (bgA ps B n room σ.1 σ.2.2.2.1 σ.2.2.2.2).2.1, (bgA ps B n room σ.1 σ.2.2.2.1 σ.2.2.2.2).2.2)
/-- the next whole is gone through -/
def goN (ps : List (List Nat)) (B : Nat → Bool) (n room : Nat) (rs : List Rl) (σ : ES) : E5 := nodesA ps B n room (σ.1.getD σ.2.1.length eD).1 σ.2.1.length rs n (σ.1, 0, σ.2.2.1, σ.2.2.2.1, σ.2.2.2.2)
def fin5 (S : List Nat) (τ : E5) : ES := (τ.1, if τ.2.2.2.2 = 0 then S ++ [τ.2.1] else S, τ.2.2.1, τ.2.2.2.1, τ.2.2.2.2)
def goS (ps : List (List Nat)) (B : Nat → Bool) (n room : Nat) (rs : List Rl) (σ : ES) : ES := fin5 σ.2.1 (goN ps B n room rs σ)
def rnA (ps : List (List Nat)) (B : Nat → Bool) (n room : Nat) (rs : List Rl) : Nat → ES → ES
  | 0, σ => σ
  | f + 1, σ => if σ.2.2.2.2 = 0 ∧ σ.2.1.length < σ.1.length then rnA ps B n room rs f (goS ps B n room rs σ) else σ
theorem rnA_stop {ps : List (List Nat)} {B : Nat → Bool} {n room : Nat} {rs : List Rl} {σ : ES} (h : ¬ (σ.2.2.2.2 = 0 ∧ σ.2.1.length < σ.1.length)) : ∀ f, rnA ps B n room rs f σ = σ
  | 0 => rfl
  | f + 1 => by show (if _ then _ else _) = _; rw [if_neg h]
theorem rnA_go {ps : List (List Nat)} {B : Nat → Bool} {n room : Nat} {rs : List Rl} {σ : ES} {f : Nat} (h : σ.2.2.2.2 = 0 ∧ σ.2.1.length < σ.1.length) : rnA ps B n room rs (f + 1) σ = rnA ps B n room rs f (goS ps B n room rs σ) := by
  show (if _ then _ else _) = _; rw [if_pos h]
theorem goN_len {ps : List (List Nat)} {B : Nat → Bool} {n room : Nat} {rs : List Rl} {σ : ES} : σ.1.length ≤ (goN ps B n room rs σ).1.length := by
  have := nodes_len (ps := ps) (B := B) (n := n) (room := room) (w := (σ.1.getD σ.2.1.length eD).1) (fr := σ.2.1.length) (rs := rs) (σ := (σ.1, 0, σ.2.2.1, σ.2.2.2.1, σ.2.2.2.2)) 0 n
  rw [Nat.zero_add] at this
  exact this
theorem rnA_len {ps : List (List Nat)} {B : Nat → Bool} {n room : Nat} {rs : List Rl} : ∀ f (σ : ES), σ.1.length ≤ (rnA ps B n room rs f σ).1.length
  | 0, σ => Nat.le_refl _
  | f + 1, σ => by
    show _ ≤ (if _ then _ else _ : ES).1.length
    split
    · exact Nat.le_trans goN_len (rnA_len f (goS ps B n room rs σ))
    · exact Nat.le_refl _
theorem w0_ok (n : Nat) : Vl n w0A := by
  refine ⟨rfl, fun i => ?_, fun i _ => ?_, by decide, fun c hc => by simp [w0A] at hc, List.Pairwise.nil⟩
  · match i with
    | 0 => decide
    | 1 => decide
    | 2 => decide
    | 3 => decide
    | i + 4 => show 0 < 8; decide
  · match i with
    | 0 => rfl
    | 1 => rfl
    | 2 => rfl
    | 3 => rfl
    | i + 4 => rfl
theorem w0_dg {i : Nat} (h : i < 4) : dg w0A i = 0 := by
  match i, h with
  | 0, _ => rfl
  | 1, _ => rfl
  | 2, _ => rfl
  | 3, _ => rfl
/-- what stays true of an exploration, for the programs' sake -/
def SI (n room : Nat) (σ : ES) : Prop := EOK n room σ.1 ∧ σ.2.2.2.2 ≤ 2 ∧ σ.2.1.length ≤ σ.1.length ∧ (σ.1.length = 0 → σ.2.2.2.2 = 0)
theorem bgS_ok {ps : List (List Nat)} {B : Nat → Bool} {n room : Nat} {σ : ES} (h : SI n room σ) (h0 : 0 < ps.length) (hp : ∀ π ∈ ps, Pm n π) (hn4 : n ≤ 4) (hr : 0 < room) : SI n room (bgS ps B n room σ) ∧ σ.1.length ≤ (bgS ps B n room σ).1.length ∧ 0 < (bgS ps B n room σ).1.length := by
  unfold bgS bgA
  split
  · rename_i he
    have hc := come_ok (ag := σ.2.2.2.1) (B := B) (fr := -1) (ru := -1) h.1 h0 hp (w0_ok n) hn4
    have hpos : 0 < (comeA ps B n room σ.1 σ.2.2.2.1 w0A (-1) (-1)).1.length := by
      have hE : σ.1 = [] := List.eq_nil_of_length_eq_zero he
      unfold comeA
      rw [hE]
      split
      · rename_i hm; simp at hm
      · split
        · rename_i h1 h2; simp at h2; omega
        · simp
    refine ⟨⟨hc.1, come_ov, ?_, fun z => absurd z (by show ¬ (comeA ps B n room σ.1 σ.2.2.2.1 w0A (-1) (-1)).1.length = 0; omega)⟩, ?_, hpos⟩
    · have h1 := h.2.2.1
      show σ.2.1.length ≤ _
      omega
    · show σ.1.length ≤ _
      omega
  · rename_i he
    exact ⟨h, Nat.le_refl _, Nat.pos_of_ne_zero he⟩
theorem goS_ok {ps : List (List Nat)} {B : Nat → Bool} {n room : Nat} {rs : List Rl} {σ : ES} (h : SI n room σ) (h0 : 0 < ps.length) (hp : ∀ π ∈ ps, Pm n π) (hn4 : n ≤ 4) (hR : ∀ r ∈ rs, RlOK r) (hg : σ.2.1.length < σ.1.length) : SI n room (goS ps B n room rs σ) ∧ (∀ k, k < σ.1.length → (goS ps B n room rs σ).1.getD k eD = σ.1.getD k eD) := by
  have hV := h.1.1 _ (getD_memE hg)
  have hs : SOK n room σ.1 (goN ps B n room rs σ) := SOK.nodes (E0 := σ.1) (σ := (σ.1, 0, σ.2.2.1, σ.2.2.2.1, σ.2.2.2.2)) ⟨h.1, h.2.1, Nat.le_refl _, fun _ _ => rfl⟩ h0 hp hV hn4 hR n (Nat.le_refl _)
  refine ⟨⟨hs.1, hs.2.1, ?_, fun z => ?_⟩, hs.2.2.2⟩
  · show (if _ then _ else _ : List Nat).length ≤ _
    have hl := hs.2.2.1
    split
    · rw [List.length_append, List.length_singleton]
      exact Nat.le_trans hg hl
    · exact Nat.le_trans (Nat.le_of_lt hg) hl
  · have hl := hs.2.2.1
    have hz : (goN ps B n room rs σ).1.length = 0 := z
    omega
theorem rnA_ok {ps : List (List Nat)} {B : Nat → Bool} {n room : Nat} {rs : List Rl} (h0 : 0 < ps.length) (hp : ∀ π ∈ ps, Pm n π) (hn4 : n ≤ 4) (hR : ∀ r ∈ rs, RlOK r) : ∀ f (σ : ES), SI n room σ → SI n room (rnA ps B n room rs f σ)
  | 0, _, h => h
  | f + 1, σ, h => by
    show SI n room (if _ then _ else _)
    split
    · rename_i hc
      exact rnA_ok h0 hp hn4 hR f _ (goS_ok h h0 hp hn4 hR hc.2).1
    · exact h
/-- the steps of those gone through, as the program has them -/
def XS (S : List Nat) (f : Nat → Int32) : Prop := ∀ k, k < S.length → f k = nI (S.getD k 0)
theorem XS.snoc {S : List Nat} {f : Nat → Int32} {c : Nat} (h : ∀ k, k < S.length → f k = nI (S.getD k 0)) (hc : f S.length = nI c) : XS (S ++ [c]) f := by
  intro k hk
  rw [List.length_append, List.length_singleton] at hk
  rw [List.getD_eq_getElem?_getD]
  by_cases he : k = S.length
  · subst he; simpa using hc
  · rw [List.getElem?_append_left (by omega), ← List.getD_eq_getElem?_getD]
    exact h k (by omega)
