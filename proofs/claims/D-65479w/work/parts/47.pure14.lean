-- PURE: when it is over nothing more is done
section OVR
variable {ps : List (List Nat)} {B : Nat → Bool} {n room : Nat} {w : Wh} {fr : Nat}
theorem stepO {ru nd : Nat} {R : Rl} {oc : Option Nat} {σ : E5} (h : ¬ σ.2.2.2.2 = 0) : stepA ps B n room w fr ru nd R oc σ = σ := by
  unfold stepA; rw [if_neg h]
theorem recvO {ru nd ev : Nat} {R : Rl} {σ : E5} {k : Nat} (h : ¬ (recvA ps B n room w fr ru nd ev R k σ).2.2.2.2 = 0) : ∀ d, recvA ps B n room w fr ru nd ev R (k + d) σ = recvA ps B n room w fr ru nd ev R k σ
  | 0 => rfl
  | d + 1 => by
    show (if recvB w nd ev (k + d) = true then stepA ps B n room w fr ru nd R (some (w.2.getD (k + d) 0)) (recvA ps B n room w fr ru nd ev R (k + d) σ) else recvA ps B n room w fr ru nd ev R (k + d) σ) = _
    rw [recvO h d, stepO h]
    split <;> rfl
theorem ruleO {ru nd : Nat} {R : Rl} {σ : E5} (h : ¬ σ.2.2.2.2 = 0) : ruleA ps B n room w fr ru nd R σ = σ := by
  unfold ruleA
  split
  · cases R.2.1 with
    | none => exact stepO h
    | some ev =>
      have := recvO (ps := ps) (B := B) (n := n) (room := room) (w := w) (fr := fr) (ru := ru) (nd := nd) (ev := ev) (R := R) (σ := σ) (k := 0) h w.2.length
      rw [Nat.zero_add] at this
      exact this
  · rfl
theorem rulesO {rs : List Rl} {nd : Nat} {σ : E5} {k : Nat} (h : ¬ (rulesA ps B n room w fr rs nd k σ).2.2.2.2 = 0) : ∀ d, rulesA ps B n room w fr rs nd (k + d) σ = rulesA ps B n room w fr rs nd k σ
  | 0 => rfl
  | d + 1 => by
    show ruleA ps B n room w fr (k + d) nd (rs.getD (k + d) rD) (rulesA ps B n room w fr rs nd (k + d) σ) = _
    rw [rulesO h d, ruleO h]
theorem nodesO {rs : List Rl} {σ : E5} {k : Nat} (h : ¬ (nodesA ps B n room w fr rs k σ).2.2.2.2 = 0) : ∀ d, nodesA ps B n room w fr rs (k + d) σ = nodesA ps B n room w fr rs k σ
  | 0 => rfl
  | d + 1 => by
    show rulesA ps B n room w fr rs (k + d) rs.length (nodesA ps B n room w fr rs (k + d) σ) = _
    rw [nodesO h d]
    have := rulesO (ps := ps) (B := B) (n := n) (room := room) (w := w) (fr := fr) (rs := rs) (nd := k + d) (σ := nodesA ps B n room w fr rs k σ) (k := 0) h rs.length
    rw [Nat.zero_add] at this
    exact this
end OVR
def asR (c c1 ov : Nat) : Int32 := if ov = 0 then nI (c1 - c) else -1
theorem stR_0 {ov : Nat} {r : Int32} (h : r = stR ov) (hr : r = 0) : ¬ ov = 0 := by
  intro z
  rw [hr, stR, if_pos z] at h
  exact absurd h (by decide)
theorem stR_1 {ov : Nat} {r : Int32} (h : r = stR ov) (hr : ¬ r = 0) : ov = 0 := by
  by_cases z : ov = 0
  · exact z
  · rw [stR, if_neg z] at h
    exact absurd h hr
theorem step_same {ps : List (List Nat)} {B : Nat → Bool} {n room fr ru nd cnt md ag ag1 ov1 : Nat} {w w1 : Wh} {R : Rl} {oc : Option Nat} {E E1 : List Ent} (h : mkW n w nd R.2.2.1 R.2.2.2 oc = some w1) (hc : comeA ps B n room E ag w1 (nI fr) (nI ru) = (E1, ag1, ov1)) : stepA ps B n room w fr ru nd R oc (E, cnt, md, ag, 0) = (E1, cnt + 1, md + 1, ag1, ov1) := by
  unfold stepA
  rw [if_pos rfl, h]
  show ((comeA ps B n room E ag w1 (nI fr) (nI ru)).1, cnt + 1, md + 1, (comeA ps B n room E ag w1 (nI fr) (nI ru)).2.1, (comeA ps B n room E ag w1 (nI fr) (nI ru)).2.2) = _
  rw [hc]
