-- PURE: what stays in the reference while it explores
def MC (n : Nat) (ps pm : List (List Nat)) (B : Nat → Bool) (fa : Nat → Nat → Int32) : Prop := n ≤ 4 ∧ SymB B ∧ (∀ i, i < 64 → fa 7 i = if B i = true then nI 1 else nI 0) ∧ 0 < ps.length ∧ (∀ π ∈ ps, Pm n π) ∧ 0 < pm.length ∧ pm.length ≤ 24 ∧ (∀ π ∈ pm, Pm n π) ∧ (∀ k, k < pm.length → ∀ i, i < n → fa 8 (4 * k + i) = nI ((pm.getD k []).getD i 0)) ∧ (∀ w, Vl n w → frm pm w = frm ps w)
theorem MC.kp {n : Nat} {ps pm : List (List Nat)} {B : Nat → Bool} {fa fb : Nat → Nat → Int32} (h : MC n ps pm B fa) (hk : ∀ i, i < 9 → fb i = fa i) : MC n ps pm B fb := by
  obtain ⟨a, b, c, d, e, f, g, i, j, k⟩ := h
  exact ⟨a, b, by rw [hk 7 (by decide)]; exact c, d, e, f, g, i, by rw [hk 8 (by decide)]; exact j, k⟩
/-- a rule that waits for nothing answers no one -/
def RlN (r : Rl) : Prop := r.2.1 = none → ∀ s ∈ r.2.2.2, s.2 = 1
def MRl (rs : List Rl) (fa : Nat → Nat → Int32) : Prop := rs.length ≤ 40 ∧ (∀ r ∈ rs, RlOK r) ∧ (∀ r ∈ rs, RlN r) ∧ ∀ i, i < rs.length → fa 1 i = nI (rs.getD i rD).1 ∧ fa 2 i = evI (rs.getD i rD).2.1 ∧ fa 3 i = nI (rs.getD i rD).2.2.1 ∧ fa 4 i = nI (rs.getD i rD).2.2.2.length ∧ ∀ k, k < (rs.getD i rD).2.2.2.length → fa 5 (4 * i + k) = nI ((rs.getD i rD).2.2.2.getD k (0, 0)).1 ∧ fa 6 (4 * i + k) = nI ((rs.getD i rD).2.2.2.getD k (0, 0)).2
theorem MRl.kp {rs : List Rl} {fa fb : Nat → Nat → Int32} (h : MRl rs fa) (hk : ∀ i, i < 9 → fb i = fa i) : MRl rs fb := by
  obtain ⟨a, b, c, d⟩ := h
  refine ⟨a, b, c, ?_⟩
  rw [hk 1 (by decide), hk 2 (by decide), hk 3 (by decide), hk 4 (by decide), hk 5 (by decide), hk 6 (by decide)]
  exact d
theorem rs_mem {rs : List Rl} {i : Nat} (hi : i < rs.length) : rs.getD i rD ∈ rs := by
  rw [List.getD_eq_getElem?_getD, List.getElem?_eq_getElem hi]; exact List.getElem_mem hi
theorem th_in {b : Wh} {E : List Ent} {r : Int32} (h : r = (if b ∈ E.map (fun e => e.1) then nI 1 else nI 0)) (hr : ¬ r = 0) : b ∈ E.map (fun e => e.1) := by
  by_cases hc : b ∈ E.map (fun e => e.1)
  · exact hc
  · rw [if_neg hc] at h; exact absurd h hr
theorem th_nin {b : Wh} {E : List Ent} {r : Int32} (h : r = (if b ∈ E.map (fun e => e.1) then nI 1 else nI 0)) (hr : r = 0) : b ∉ E.map (fun e => e.1) := by
  intro hc
  rw [if_pos hc, hr] at h
  exact absurd h (by decide)
theorem kp3 {fa : Nat → Nat → Int32} {a b : Nat → Int32} : ∀ i, i < 9 → va_up (va_up fa 17 a) 18 b i = fa i := by
  intro i hi
  simp only [va_up]
  rw [if_neg (by omega), if_neg (by omega)]
theorem kp4 {fa : Nat → Nat → Int32} {a b c : Nat → Int32} : ∀ i, i < 9 → va_up (va_up (va_up fa 16 a) 17 b) 18 c i = fa i := by
  intro i hi
  simp only [va_up]
  rw [if_neg (by omega), if_neg (by omega), if_neg (by omega)]
theorem kp1 {fa : Nat → Nat → Int32} {a : Nat → Int32} : ∀ i, i < 9 → va_up fa 16 a i = fa i := by
  intro i hi
  simp only [va_up]
  rw [if_neg (by omega)]
theorem kpt {fa fb fc : Nat → Nat → Int32} (h1 : ∀ i, i < 9 → fb i = fa i) (h2 : ∀ i, i < 9 → fc i = fb i) : ∀ i, i < 9 → fc i = fa i := fun i hi => (h2 i hi).trans (h1 i hi)
theorem w0_row {f : Nat → Int32} (h : ∀ i, i < 12 → f i = nI 0) : Row f 0 w0A := by
  refine Row.mk (fun i hi => ?_) (by rw [Nat.zero_add]; exact h 4 (by decide)) (fun i hi => absurd hi (Nat.not_lt_zero _))
  rw [Nat.zero_add, w0_dg hi]; exact h i (by omega)
theorem anF_0 {ov : Nat} (ho : ov ≤ 2) : anF ov = 0 ↔ ov = 0 := by
  rcases (by omega : ov = 0 ∨ ov = 1 ∨ ov = 2) with rfl | rfl | rfl <;> decide
def stR (ov : Nat) : Int32 := if ov = 0 then nI 1 else nI 0
theorem bg_nil {ps : List (List Nat)} {B : Nat → Bool} {n room ag ov : Nat} (hr : 0 < room) : bgA ps B n room [] ag ov = ([((frm ps w0A).1, -1, -1, 0, (frm ps w0A).2)], ag, if badB n B w0A = true then 1 else 0) := by
  unfold bgA
  rw [if_pos (show ([] : List Ent).length = 0 from rfl), come_add (by simp) (by simp; omega)]
  rfl
theorem bg_some {ps : List (List Nat)} {B : Nat → Bool} {n room ag ov : Nat} {E : List Ent} (h : E.length ≠ 0) : bgA ps B n room E ag ov = (E, ag, ov) := by
  unfold bgA
  rw [if_neg h]
