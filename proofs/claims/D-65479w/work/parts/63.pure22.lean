-- PURE: levels while exploring, on
section IWS
variable {ps : List (List Nat)} {B : Nat → Bool} {n room : Nat} {w : Wh} {fr : Nat} {E0 : List Ent}
theorem SOK.l8 {σ : E5} (h : SOK n room E0 σ) : σ.1.length ≤ 8192 := Nat.le_trans h.1.2.2.1 h.1.2.2.2
theorem iw_recv {ru nd ev : Nat} {R : Rl} {σ : E5} (h : SOK n room E0 σ) (hi : IVf σ.1 fr) (h0 : 0 < ps.length) (h24 : ps.length ≤ 24) (hp : ∀ π ∈ ps, Pm n π) (hV : Vl n w) (hn4 : n ≤ 4) (hnd : nd < n) (hR : RlOK R) : ∀ k, IVf (recvA ps B n room w fr ru nd ev R k σ).1 fr
  | 0 => hi
  | k + 1 => by
    have ih := iw_recv (ru := ru) (ev := ev) h hi h0 h24 hp hV hn4 hnd hR k
    have hS := SOK.recv (B := B) (fr := fr) (ru := ru) (ev := ev) h h0 hp hV hn4 hnd hR k
    show IVf (if recvB w nd ev k = true then stepA ps B n room w fr ru nd R (some (w.2.getD k 0)) (recvA ps B n room w fr ru nd ev R k σ) else recvA ps B n room w fr ru nd ev R k σ).1 fr
    split
    · exact step_iv ih h0 h24 hS.l8
    · exact ih
theorem iw_rule {ru nd : Nat} {R : Rl} {σ : E5} (h : SOK n room E0 σ) (hi : IVf σ.1 fr) (h0 : 0 < ps.length) (h24 : ps.length ≤ 24) (hp : ∀ π ∈ ps, Pm n π) (hV : Vl n w) (hn4 : n ≤ 4) (hnd : nd < n) (hR : RlOK R) : IVf (ruleA ps B n room w fr ru nd R σ).1 fr := by
  unfold ruleA
  split
  · cases R.2.1 with
    | none => exact step_iv hi h0 h24 h.l8
    | some ev => exact iw_recv h hi h0 h24 hp hV hn4 hnd hR _
  · exact hi
theorem iw_rules {rs : List Rl} {nd : Nat} {σ : E5} (h : SOK n room E0 σ) (hi : IVf σ.1 fr) (h0 : 0 < ps.length) (h24 : ps.length ≤ 24) (hp : ∀ π ∈ ps, Pm n π) (hV : Vl n w) (hn4 : n ≤ 4) (hnd : nd < n) (hR : ∀ r ∈ rs, RlOK r) : ∀ k, k ≤ rs.length → IVf (rulesA ps B n room w fr rs nd k σ).1 fr
  | 0, _ => hi
  | k + 1, hk => by
    have ih := iw_rules (nd := nd) h hi h0 h24 hp hV hn4 hnd hR k (by omega)
    have hS := SOK.rules (B := B) (fr := fr) (nd := nd) h h0 hp hV hn4 hnd hR k (by omega)
    exact iw_rule hS ih h0 h24 hp hV hn4 hnd (rs_at hR (by omega))
theorem iw_nodes {rs : List Rl} {σ : E5} (h : SOK n room E0 σ) (hi : IVf σ.1 fr) (h0 : 0 < ps.length) (h24 : ps.length ≤ 24) (hp : ∀ π ∈ ps, Pm n π) (hV : Vl n w) (hn4 : n ≤ 4) (hR : ∀ r ∈ rs, RlOK r) : ∀ k, k ≤ n → IVf (nodesA ps B n room w fr rs k σ).1 fr
  | 0, _ => hi
  | k + 1, hk => by
    have ih := iw_nodes h hi h0 h24 hp hV hn4 hR k (by omega)
    have hS := SOK.nodes (B := B) (fr := fr) h h0 hp hV hn4 hR k (by omega)
    exact iw_rules hS ih h0 h24 hp hV hn4 (by omega) hR _ (Nat.le_refl _)
end IWS
/-- what holds of entries and steps between two calls -/
def IV (σ : ES) : Prop := LIa σ.1 ∧ ALa σ.1 ∧ LMa σ.1 ∧ (σ.2.1.length < σ.1.length → ∀ k, k < σ.1.length → lvE σ.1 k ≤ lvE σ.1 σ.2.1.length + 1) ∧ (∀ k, k < σ.2.1.length → σ.2.1.getD k 0 < 2147483648) ∧ (σ.1.length = 0 → σ.2.2.1 = 0 ∧ σ.2.2.2.1 = 0)
theorem IV.nil : IV ([], [], 0, 0, 0) := ⟨fun k hk => absurd hk (Nat.not_lt_zero _), fun k hk => absurd hk (Nat.not_lt_zero _), fun i j _ hj => absurd hj (Nat.not_lt_zero _), fun _ k hk => absurd hk (Nat.not_lt_zero _), fun k hk => absurd hk (Nat.not_lt_zero _), fun _ => ⟨rfl, rfl⟩⟩
theorem goS_iv {ps : List (List Nat)} {B : Nat → Bool} {n room : Nat} {rs : List Rl} {σ : ES} (h : SI n room σ) (hv : IV σ) (h0 : 0 < ps.length) (h24 : ps.length ≤ 24) (hp : ∀ π ∈ ps, Pm n π) (hn4 : n ≤ 4) (hR : ∀ r ∈ rs, RlOK r) (hr : rs.length ≤ 40) (hg : σ.2.1.length < σ.1.length) : IV (goS ps B n room rs σ) := by
  obtain ⟨v1, v2, v3, v4, v5, v6⟩ := hv
  have hV : Vl n (σ.1.getD σ.2.1.length eD).1 := h.1.1 _ (getD_memE hg)
  have hS0 : SOK n room σ.1 (σ.1, 0, σ.2.2.1, σ.2.2.2.1, σ.2.2.2.2) := ⟨h.1, h.2.1, Nat.le_refl _, fun _ _ => rfl⟩
  have hi := iw_nodes (B := B) hS0 (fr := σ.2.1.length) ⟨v1, v2, v3, hg, v4 hg⟩ h0 h24 hp hV hn4 hR n (Nat.le_refl _)
  have hct := nodes_ct (ps := ps) (B := B) (n := n) (room := room) (fr := σ.2.1.length) (rs := rs) (σ := (σ.1, 0, σ.2.2.1, σ.2.2.2.1, σ.2.2.2.2)) hV.2.2.2.1 hr n
  have hL := goN_len (ps := ps) (B := B) (n := n) (room := room) (rs := rs) (σ := σ)
  change IVf (goN ps B n room rs σ).1 σ.2.1.length at hi
  change (goN ps B n room rs σ).2.1 ≤ 0 + 280 * n at hct
  obtain ⟨w1, w2, w3, w4, w5⟩ := hi
  unfold goS fin5
  refine ⟨w1, w2, w3, ?_, ?_, ?_⟩
  · show (if (goN ps B n room rs σ).2.2.2.2 = 0 then σ.2.1 ++ [(goN ps B n room rs σ).2.1] else σ.2.1).length < (goN ps B n room rs σ).1.length → ∀ k, k < (goN ps B n room rs σ).1.length → lvE (goN ps B n room rs σ).1 k ≤ lvE (goN ps B n room rs σ).1 (if (goN ps B n room rs σ).2.2.2.2 = 0 then σ.2.1 ++ [(goN ps B n room rs σ).2.1] else σ.2.1).length + 1
    split
    · intro hl k hk
      rw [List.length_append, List.length_singleton] at hl ⊢
      have a := w5 k hk
      have b := w3 σ.2.1.length (σ.2.1.length + 1) (by omega) hl
      omega
    · exact fun _ => w5
  · show ∀ k, k < (if (goN ps B n room rs σ).2.2.2.2 = 0 then σ.2.1 ++ [(goN ps B n room rs σ).2.1] else σ.2.1).length → (if (goN ps B n room rs σ).2.2.2.2 = 0 then σ.2.1 ++ [(goN ps B n room rs σ).2.1] else σ.2.1).getD k 0 < 2147483648
    split
    · intro k hk
      rw [List.length_append, List.length_singleton] at hk
      by_cases he : k = σ.2.1.length
      · rw [he, getD_S_eq]; omega
      · rw [getD_S_lt (by omega)]; exact v5 k (by omega)
    · exact v5
  · intro hz
    change (goN ps B n room rs σ).1.length = 0 at hz
    omega
