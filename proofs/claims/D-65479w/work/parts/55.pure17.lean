-- PURE: the reference's numberings
def seM (k : Nat) : Nat → Nat
  | 0 => 0
  | i + 1 => seM k i ||| 1 * 2 ^ (k / 2 ^ (2 * i) % 4)
theorem pw4 (y : Nat) : 1 * 2 ^ (y % 4) < 16 := by
  have h : y % 4 < 4 := Nat.mod_lt _ (by decide)
  rcases (by omega : y % 4 = 0 ∨ y % 4 = 1 ∨ y % 4 = 2 ∨ y % 4 = 3) with h | h | h | h <;> rw [h] <;> decide
theorem seM_lt (k : Nat) : ∀ i, seM k i < 16
  | 0 => Nat.le_of_ble_eq_true rfl
  | i + 1 => by
    show (seM k i ||| 1 * 2 ^ (k / 2 ^ (2 * i) % 4)) < 2 ^ 4
    exact Nat.or_lt_two_pow (seM_lt k i) (pw4 _)
def okM (n k : Nat) : Bool := seM k n == 1 * 2 ^ n - 1 && k / 2 ^ (2 * n) == 0
def peM (n k i : Nat) : Nat := if i < n then k / 2 ^ (2 * i) % 4 else i
def permM (n k : Nat) : List Nat := [peM n k 0, peM n k 1, peM n k 2, peM n k 3]
def PMk (n k : Nat) : List (List Nat) := ((List.range k).filter (okM n)).map (permM n)
theorem PMk_skip {n k : Nat} (h : okM n k = false) : PMk n (k + 1) = PMk n k := by
  unfold PMk
  rw [List.range_succ, List.filter_append, List.map_append]
  simp [List.filter, h]
theorem PMk_add {n k : Nat} (h : okM n k = true) : PMk n (k + 1) = PMk n k ++ [permM n k] := by
  unfold PMk
  rw [List.range_succ, List.filter_append, List.map_append]
  simp [List.filter, h]
theorem PMk_mono {n k : Nat} : ∀ d, (PMk n k).length ≤ (PMk n (k + d)).length
  | 0 => Nat.le_refl _
  | d + 1 => by
    have ih := PMk_mono (n := n) (k := k) d
    cases h : okM n (k + d) with
    | true =>
      have := PMk_add h
      rw [show k + (d + 1) = k + d + 1 from rfl, this, List.length_append]
      omega
    | false =>
      have := PMk_skip h
      rw [show k + (d + 1) = k + d + 1 from rfl, this]
      exact ih
theorem PM_24 : ∀ n, n < 5 → (PMk n 256).length ≤ 24 := by decide +kernel
theorem PMk_24 {n k : Nat} (hn : n ≤ 4) (hk : k ≤ 256) : (PMk n k).length ≤ 24 := by
  have := PMk_mono (n := n) (k := k) (256 - k)
  rw [show k + (256 - k) = 256 by omega] at this
  exact Nat.le_trans this (PM_24 n (by omega))
def NumI (n : Nat) (pm : List (List Nat)) (fn : Nat → Int32) : Prop := ∀ q, q < pm.length → ∀ i, i < n → fn (4 * q + i) = nI ((pm.getD q []).getD i 0)
theorem permM_get {n k i : Nat} (hi : i < n) (hn : n ≤ 4) : (permM n k).getD i 0 = k / 2 ^ (2 * i) % 4 := by
  rcases (by omega : i = 0 ∨ i = 1 ∨ i = 2 ∨ i = 3) with rfl | rfl | rfl | rfl
  · show peM n k 0 = _; unfold peM; rw [if_pos hi]
  · show peM n k 1 = _; unfold peM; rw [if_pos hi]
  · show peM n k 2 = _; unfold peM; rw [if_pos hi]
  · show peM n k 3 = _; unfold peM; rw [if_pos hi]
theorem pl_lt {pm : List (List Nat)} {π : List Nat} {q : Nat} (h : q < pm.length) : (pm ++ [π]).getD q [] = pm.getD q [] := by
  rw [List.getD_eq_getElem?_getD, List.getD_eq_getElem?_getD, List.getElem?_append_left h]
theorem pl_eq {pm : List (List Nat)} {π : List Nat} : (pm ++ [π]).getD pm.length [] = π := by
  rw [List.getD_eq_getElem?_getD, List.getElem?_append_right (Nat.le_refl _)]; simp
theorem NumI.snoc {n k : Nat} {pm : List (List Nat)} {fn : Nat → Int32} {i : Nat} (hn : n ≤ 4) (h : NumI n pm fn) (h2 : ∀ t, t < i → fn (4 * pm.length + t) = nI (k / 2 ^ (2 * t) % 4)) (hi : n ≤ i) : NumI n (pm ++ [permM n k]) fn := by
  intro q hq t ht
  rw [List.length_append, List.length_singleton] at hq
  by_cases he : q = pm.length
  · rw [he, h2 t (by omega), pl_eq, permM_get ht hn]
  · rw [h q (by omega) t ht, pl_lt (by omega)]
theorem NumI.up {n : Nat} {pm : List (List Nat)} {fn : Nat → Int32} {j : Nat} {v : Int32} (h : NumI n pm fn) (hn : n ≤ 4) (hj : 4 * pm.length ≤ j) : NumI n pm (upd fn j v) := by
  intro q hq t ht
  rw [upd, if_neg (by omega)]; exact h q hq t ht
theorem okM_t {n k : Nat} (h1 : seM k n = 1 * 2 ^ n - 1) (h2 : k / 2 ^ (2 * n) = 0) : okM n k = true := by
  unfold okM; rw [h1, h2]; simp
theorem okM_f1 {n k : Nat} (h1 : ¬ seM k n = 1 * 2 ^ n - 1) : okM n k = false := by
  unfold okM
  have : (seM k n == 1 * 2 ^ n - 1) = false := by simpa using h1
  rw [this]; rfl
theorem okM_f2 {n k : Nat} (h1 : ¬ k / 2 ^ (2 * n) = 0) : okM n k = false := by
  unfold okM
  have : (k / 2 ^ (2 * n) == 0) = false := by simpa using h1
  rw [this]; simp
