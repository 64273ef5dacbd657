-- PURE: how many steps there are at most; what goThrough leaves in the reference
section CNT
variable {ps : List (List Nat)} {B : Nat → Bool} {n room : Nat} {w : Wh} {fr : Nat}
theorem step_ct {ru nd : Nat} {R : Rl} {oc : Option Nat} {σ : E5} : (stepA ps B n room w fr ru nd R oc σ).2.1 ≤ σ.2.1 + 1 := by
  unfold stepA
  split
  · cases mkW n w nd R.2.2.1 R.2.2.2 oc with
    | none => exact Nat.le_succ _
    | some w1 => exact Nat.le_refl _
  · exact Nat.le_succ _
theorem recv_ct {ru nd ev : Nat} {R : Rl} {σ : E5} : ∀ k, (recvA ps B n room w fr ru nd ev R k σ).2.1 ≤ σ.2.1 + k
  | 0 => Nat.le_refl _
  | k + 1 => by
    have ih := recv_ct (ru := ru) (nd := nd) (ev := ev) (R := R) (σ := σ) k
    show (if recvB w nd ev k = true then stepA ps B n room w fr ru nd R (some (w.2.getD k 0)) (recvA ps B n room w fr ru nd ev R k σ) else recvA ps B n room w fr ru nd ev R k σ).2.1 ≤ _
    split
    · have := step_ct (ps := ps) (B := B) (n := n) (room := room) (w := w) (fr := fr) (ru := ru) (nd := nd) (R := R) (oc := some (w.2.getD k 0)) (σ := recvA ps B n room w fr ru nd ev R k σ)
      omega
    · omega
theorem rule_ct {ru nd : Nat} {R : Rl} {σ : E5} (h7 : w.2.length ≤ 7) : (ruleA ps B n room w fr ru nd R σ).2.1 ≤ σ.2.1 + 7 := by
  unfold ruleA
  split
  · cases R.2.1 with
    | none => exact Nat.le_trans step_ct (by omega)
    | some ev => exact Nat.le_trans (recv_ct _) (by omega)
  · omega
theorem rules_ct {rs : List Rl} {nd : Nat} {σ : E5} (h7 : w.2.length ≤ 7) : ∀ k, (rulesA ps B n room w fr rs nd k σ).2.1 ≤ σ.2.1 + 7 * k
  | 0 => Nat.le_refl _
  | k + 1 => by
    have ih := rules_ct (rs := rs) (nd := nd) (σ := σ) h7 k
    have := rule_ct (ps := ps) (B := B) (n := n) (room := room) (fr := fr) (ru := k) (nd := nd) (R := rs.getD k rD) (σ := rulesA ps B n room w fr rs nd k σ) h7
    show (ruleA ps B n room w fr k nd (rs.getD k rD) (rulesA ps B n room w fr rs nd k σ)).2.1 ≤ _
    omega
theorem nodes_ct {rs : List Rl} {σ : E5} (h7 : w.2.length ≤ 7) (hr : rs.length ≤ 40) : ∀ k, (nodesA ps B n room w fr rs k σ).2.1 ≤ σ.2.1 + 280 * k
  | 0 => Nat.le_refl _
  | k + 1 => by
    have ih := nodes_ct (rs := rs) (σ := σ) h7 hr k
    have := rules_ct (ps := ps) (B := B) (n := n) (room := room) (fr := fr) (rs := rs) (nd := k) (σ := nodesA ps B n room w fr rs k σ) h7 rs.length
    show (rulesA ps B n room w fr rs k rs.length (nodesA ps B n room w fr rs k σ)).2.1 ≤ _
    omega
end CNT
theorem asR_pos {c c1 ov : Nat} {r : Int32} (h : r = asR c c1 ov) (hr : 0 ≤ r) : ov = 0 ∧ r = nI (c1 - c) := by
  by_cases z : ov = 0
  · rw [asR, if_pos z] at h; exact ⟨z, h⟩
  · rw [asR, if_neg z] at h
    rw [h] at hr
    exact absurd hr (by decide)
theorem asR_neg {c c1 ov : Nat} {r : Int32} (h : r = asR c c1 ov) (hc : c1 ≤ c + 7) (hr : ¬ 0 ≤ r) : ¬ ov = 0 := by
  intro z
  rw [asR, if_pos z] at h
  rw [h] at hr
  exact hr (nI_pos' (by omega))
theorem getD_S_lt {S : List Nat} {c k : Nat} (h : k < S.length) : (S ++ [c]).getD k 0 = S.getD k 0 := by
  rw [List.getD_eq_getElem?_getD, List.getD_eq_getElem?_getD, List.getElem?_append_left h]
theorem getD_S_eq {S : List Nat} {c : Nat} : (S ++ [c]).getD S.length 0 = c := by
  rw [List.getD_eq_getElem?_getD, List.getElem?_append_right (Nat.le_refl _)]; simp
theorem dead_lt {S : List Nat} {c : Nat} : ∀ k, k ≤ S.length → deadN (S ++ [c]) k = deadN S k
  | 0, _ => rfl
  | k + 1, h => by
    show deadN (S ++ [c]) k + (if (S ++ [c]).getD k 0 = 0 then 1 else 0) = deadN S k + (if S.getD k 0 = 0 then 1 else 0)
    rw [dead_lt k (by omega), getD_S_lt (by omega)]
theorem dead_s {S : List Nat} {c : Nat} : deadN (S ++ [c]) (S ++ [c]).length = deadN S S.length + (if c = 0 then 1 else 0) := by
  rw [List.length_append, List.length_singleton]
  show deadN (S ++ [c]) S.length + (if (S ++ [c]).getD S.length 0 = 0 then 1 else 0) = _
  rw [dead_lt _ (Nat.le_refl _), getD_S_eq]
theorem dead_s0 {S : List Nat} {c : Nat} (h : c = 0) : deadN S S.length + 1 = deadN (S ++ [c]) (S ++ [c]).length := by rw [dead_s, if_pos h]
theorem dead_s1 {S : List Nat} {c : Nat} (h : c ≠ 0) : deadN S S.length + 0 = deadN (S ++ [c]) (S ++ [c]).length := by rw [dead_s, if_neg h]
theorem MR.done {E : List Ent} {S : List Nat} {fa : Nat → Nat → Int32} {c : Nat} (h : MR E S fa) (hl : S.length < E.length) : MR E (S ++ [c]) (va_up fa 14 (upd (fa 14) S.length (nI c))) := by
  refine ⟨fun k hk => ?_, h.2⟩
  obtain ⟨a, b, d, e, f, g⟩ := h.1 k hk
  refine ⟨a, b, d, e, f, ?_⟩
  show upd (fa 14) S.length (nI c) k = _
  rw [List.length_append, List.length_singleton, upd]
  by_cases h1 : k = S.length
  · rw [if_pos h1, if_pos (by omega), h1, getD_S_eq]
  · rw [if_neg h1, g]
    by_cases h2 : k < S.length
    · rw [if_pos h2, if_pos (by omega), getD_S_lt h2]
    · rw [if_neg h2, if_neg (by omega)]
theorem kp14 {fa : Nat → Nat → Int32} {a : Nat → Int32} : ∀ i, i < 9 → va_up fa 14 a i = fa i := by
  intro i hi
  simp only [va_up]
  rw [if_neg (by omega)]
theorem an_r0 {ov m : Nat} (h : 0 ≤ anF ov) : nI m = resR ov m := by
  unfold anF at h; unfold resR
  split at h
  · exact absurd h (by decide)
  · split at h
    · exact absurd h (by decide)
    · rename_i h1 h2; rw [if_neg h1, if_neg h2]
theorem an_r1 {ov m : Nat} (h : ¬ 0 ≤ anF ov) : anF ov = resR ov m := by
  unfold anF at h ⊢; unfold resR
  split at h
  · rename_i h1; rw [if_pos h1, if_pos h1]
  · split at h
    · rename_i h1 h2; rw [if_neg h1, if_pos h2, if_neg h1, if_pos h2]
    · exact absurd (by decide) h
