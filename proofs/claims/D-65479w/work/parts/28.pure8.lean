-- PURE: all steps of a whole
section GO
variable (ps : List (List Nat)) (B : Nat → Bool) (n room : Nat) (w : Wh) (fr : Nat)
def recvC (w : Wh) (nd ev k : Nat) : Prop := (k = 0 ∨ w.2.getD (k - 1) 0 ≠ w.2.getD k 0) ∧ w.2.getD k 0 / 16 = ev ∧ w.2.getD k 0 % 4 = nd
def recvB (w : Wh) (nd ev k : Nat) : Bool := (k == 0 || !(w.2.getD (k - 1) 0 == w.2.getD k 0)) && (w.2.getD k 0 / 16 == ev) && (w.2.getD k 0 % 4 == nd)
/-- a rule with an event: the first k codes -/
def recvA (ru nd ev : Nat) (R : Rl) : Nat → E5 → E5
  | 0, σ => σ
  | k + 1, σ => if recvB w nd ev k = true then stepA ps B n room w fr ru nd R (some (w.2.getD k 0)) (recvA ru nd ev R k σ) else recvA ru nd ev R k σ
def ruleA (ru nd : Nat) (R : Rl) (σ : E5) : E5 := if R.1 = dg w nd then (match R.2.1 with
  | none => stepA ps B n room w fr ru nd R none σ
  | some ev => recvA ps B n room w fr ru nd ev R w.2.length σ) else σ
def rulesA (rs : List Rl) (nd : Nat) : Nat → E5 → E5
  | 0, σ => σ
  | k + 1, σ => ruleA ps B n room w fr k nd (rs.getD k rD) (rulesA rs nd k σ)
def nodesA (rs : List Rl) : Nat → E5 → E5
  | 0, σ => σ
  | k + 1, σ => rulesA ps B n room w fr rs k rs.length (nodesA rs k σ)
end GO
theorem come_len {ps : List (List Nat)} {B : Nat → Bool} {n room ag : Nat} {E : List Ent} {w : Wh} {fr ru : Int32} : E.length ≤ (comeA ps B n room E ag w fr ru).1.length := by
  unfold comeA
  split
  · exact Nat.le_refl _
  · split
    · exact Nat.le_refl _
    · show E.length ≤ (E ++ [_]).length
      rw [List.length_append]; omega
section GOL
variable {ps : List (List Nat)} {B : Nat → Bool} {n room : Nat} {w : Wh} {fr : Nat}
theorem step_len {ru nd : Nat} {R : Rl} {oc : Option Nat} {σ : E5} : σ.1.length ≤ (stepA ps B n room w fr ru nd R oc σ).1.length := by
  unfold stepA
  split
  · cases mkW n w nd R.2.2.1 R.2.2.2 oc with
    | none => exact Nat.le_refl _
    | some w1 => exact come_len
  · exact Nat.le_refl _
theorem recv_len {ru nd ev : Nat} {R : Rl} {σ : E5} : ∀ k d, (recvA ps B n room w fr ru nd ev R k σ).1.length ≤ (recvA ps B n room w fr ru nd ev R (k + d) σ).1.length
  | k, 0 => Nat.le_refl _
  | k, d + 1 => by
    refine Nat.le_trans (recv_len k d) ?_
    show _ ≤ (if _ then _ else _ : E5).1.length
    split
    · exact step_len
    · exact Nat.le_refl _
theorem rule_len {ru nd : Nat} {R : Rl} {σ : E5} : σ.1.length ≤ (ruleA ps B n room w fr ru nd R σ).1.length := by
  unfold ruleA
  split
  · cases R.2.1 with
    | none => exact step_len
    | some ev =>
      have := recv_len (ps := ps) (B := B) (n := n) (room := room) (w := w) (fr := fr) (ru := ru) (nd := nd) (ev := ev) (R := R) (σ := σ) 0 w.2.length
      rw [Nat.zero_add] at this
      exact this
  · exact Nat.le_refl _
theorem rules_len {rs : List Rl} {nd : Nat} {σ : E5} : ∀ k d, (rulesA ps B n room w fr rs nd k σ).1.length ≤ (rulesA ps B n room w fr rs nd (k + d) σ).1.length
  | k, 0 => Nat.le_refl _
  | k, d + 1 => Nat.le_trans (rules_len k d) rule_len
theorem nodes_len {rs : List Rl} {σ : E5} : ∀ k d, (nodesA ps B n room w fr rs k σ).1.length ≤ (nodesA ps B n room w fr rs (k + d) σ).1.length
  | k, 0 => Nat.le_refl _
  | k, d + 1 => by
    refine Nat.le_trans (nodes_len k d) ?_
    have := rules_len (ps := ps) (B := B) (n := n) (room := room) (w := w) (fr := fr) (rs := rs) (nd := k + d) (σ := nodesA ps B n room w fr rs (k + d) σ) 0 rs.length
    rw [Nat.zero_add] at this
    exact this
end GOL
/-- what stays true of the entries -/
def SOK (n room : Nat) (E0 : List Ent) (σ : E5) : Prop := EOK n room σ.1 ∧ σ.2.2.2.2 ≤ 2 ∧ E0.length ≤ σ.1.length ∧ ∀ k, k < E0.length → σ.1.getD k eD = E0.getD k eD
section GOK
variable {ps : List (List Nat)} {B : Nat → Bool} {n room : Nat} {w : Wh} {fr : Nat} {E0 : List Ent}
theorem SOK.step {ru nd : Nat} {R : Rl} {oc : Option Nat} {σ : E5} (h : SOK n room E0 σ) (h0 : 0 < ps.length) (hp : ∀ π ∈ ps, Pm n π) (hV : Vl n w) (hn4 : n ≤ 4) (hnd : nd < n) (hR : RlOK R) : SOK n room E0 (stepA ps B n room w fr ru nd R oc σ) := by
  unfold stepA
  split
  · cases hm : mkW n w nd R.2.2.1 R.2.2.2 oc with
    | none => exact h
    | some w1 =>
      have hc := come_ok (B := B) (ag := σ.2.2.2.1) (fr := nI fr) (ru := nI ru) h.1 h0 hp (mk_ok hV hn4 hnd hR.2.2.1 hR.2.2.2.1 hm) hn4
      exact ⟨hc.1, come_ov, Nat.le_trans h.2.2.1 hc.2.1, fun k hk => (hc.2.2 k (Nat.lt_of_lt_of_le hk h.2.2.1)).trans (h.2.2.2 k hk)⟩
  · exact h
theorem SOK.recv {ru nd ev : Nat} {R : Rl} {σ : E5} (h : SOK n room E0 σ) (h0 : 0 < ps.length) (hp : ∀ π ∈ ps, Pm n π) (hV : Vl n w) (hn4 : n ≤ 4) (hnd : nd < n) (hR : RlOK R) : ∀ k, SOK n room E0 (recvA ps B n room w fr ru nd ev R k σ)
  | 0 => h
  | k + 1 => by
    show SOK n room E0 (if _ then _ else _)
    split
    · exact (SOK.recv h h0 hp hV hn4 hnd hR k).step h0 hp hV hn4 hnd hR
    · exact SOK.recv h h0 hp hV hn4 hnd hR k
theorem SOK.rule {ru nd : Nat} {R : Rl} {σ : E5} (h : SOK n room E0 σ) (h0 : 0 < ps.length) (hp : ∀ π ∈ ps, Pm n π) (hV : Vl n w) (hn4 : n ≤ 4) (hnd : nd < n) (hR : RlOK R) : SOK n room E0 (ruleA ps B n room w fr ru nd R σ) := by
  unfold ruleA
  split
  · cases R.2.1 with
    | none => exact h.step h0 hp hV hn4 hnd hR
    | some ev => exact h.recv h0 hp hV hn4 hnd hR _
  · exact h
theorem SOK.rules {rs : List Rl} {nd : Nat} {σ : E5} (h : SOK n room E0 σ) (h0 : 0 < ps.length) (hp : ∀ π ∈ ps, Pm n π) (hV : Vl n w) (hn4 : n ≤ 4) (hnd : nd < n) (hR : ∀ r ∈ rs, RlOK r) : ∀ k, k ≤ rs.length → SOK n room E0 (rulesA ps B n room w fr rs nd k σ)
  | 0, _ => h
  | k + 1, hk => (SOK.rules h h0 hp hV hn4 hnd hR k (by omega)).rule h0 hp hV hn4 hnd (rs_at hR (by omega))
theorem SOK.nodes {rs : List Rl} {σ : E5} (h : SOK n room E0 σ) (h0 : 0 < ps.length) (hp : ∀ π ∈ ps, Pm n π) (hV : Vl n w) (hn4 : n ≤ 4) (hR : ∀ r ∈ rs, RlOK r) : ∀ k, k ≤ n → SOK n room E0 (nodesA ps B n room w fr rs k σ)
  | 0, _ => h
  | k + 1, hk => (SOK.nodes h h0 hp hV hn4 hR k (by omega)).rules h0 hp hV hn4 (by omega) hR _ (Nat.le_refl _)
end GOK
theorem recv_first {w : Wh} {k : Nat} (hs : Srt w.2) (hk : k < w.2.length) (h : k = 0 ∨ w.2.getD (k - 1) 0 ≠ w.2.getD k 0) : ∀ j, j < k → w.2.getD j 0 ≠ w.2.getD k 0 := by
  intro j hj
  rcases h with h | h
  · omega
  · have h1 := srt_le hs (show j ≤ k - 1 by omega) (by omega)
    have h2 := srt_le hs (show k - 1 ≤ k by omega) hk
    omega
theorem recvB_iff {w : Wh} {nd ev k : Nat} : recvB w nd ev k = true ↔ recvC w nd ev k := by
  unfold recvB recvC
  simp only [Bool.and_eq_true, Bool.or_eq_true, beq_iff_eq, Bool.not_eq_true', beq_eq_false_iff_ne]
  constructor
  · rintro ⟨⟨a, b⟩, c⟩
    exact ⟨a, b, c⟩
  · rintro ⟨a, b, c⟩
    exact ⟨⟨a, b⟩, c⟩
theorem recvA_yes {ps : List (List Nat)} {B : Nat → Bool} {n room : Nat} {w : Wh} {fr ru nd ev k : Nat} {R : Rl} {σ : E5} (h : recvC w nd ev k) : recvA ps B n room w fr ru nd ev R (k + 1) σ = stepA ps B n room w fr ru nd R (some (w.2.getD k 0)) (recvA ps B n room w fr ru nd ev R k σ) := by
  show (if _ then _ else _) = _
  rw [if_pos (recvB_iff.mpr h)]
theorem recvA_no {ps : List (List Nat)} {B : Nat → Bool} {n room : Nat} {w : Wh} {fr ru nd ev k : Nat} {R : Rl} {σ : E5} (h : ¬ recvC w nd ev k) : recvA ps B n room w fr ru nd ev R (k + 1) σ = recvA ps B n room w fr ru nd ev R k σ := by
  show (if _ then _ else _) = _
  rw [if_neg (fun z => h (recvB_iff.mp z))]
/-- room for what is still to come -/
theorem jx_room {j a b c : Nat} (h1 : a ≤ b) (h2 : b ≤ c) : jx (jx j a) b = jx j b ∧ j ≤ jx j a ∧ jx j a ≤ jx j b ∧ jx j b ≤ jx j c ∧ 2 ^ j ≤ 2 ^ jx j a ∧ 2 ^ jx j a ≤ 2 ^ jx j b ∧ 2 ^ jx j b ≤ 2 ^ jx j c :=
  ⟨jx_jx h1, jx_le _ _, jx_mono h1, jx_mono h2, pow_mono (jx_le _ _), pow_mono (jx_mono h1), pow_mono (jx_mono h2)⟩
