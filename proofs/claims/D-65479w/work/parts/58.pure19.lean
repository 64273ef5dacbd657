-- PURE: the explorer's numberings
def pmX (n : Nat) (l : List Nat) : List Nat := (List.range 4).map (fun k => if k < n then l.getD k 0 else k)
def numA (n : Nat) : Nat → List Nat → Nat → List (List Nat)
  | 0, l, _ => [pmX n l]
  | d + 1, l, us => (List.range n).flatMap (fun k => if us / 2 ^ k % 2 = 0 then numA n d (l ++ [k]) (us ||| 1 * 2 ^ k) else [])
/-- the same, for names below k only -/
def numK (n d : Nat) (l : List Nat) (us k : Nat) : List (List Nat) := (List.range k).flatMap (fun k => if us / 2 ^ k % 2 = 0 then numA n d (l ++ [k]) (us ||| 1 * 2 ^ k) else [])
theorem numK_s {n d us k : Nat} {l : List Nat} : numK n d l us (k + 1) = numK n d l us k ++ (if us / 2 ^ k % 2 = 0 then numA n d (l ++ [k]) (us ||| 1 * 2 ^ k) else []) := by
  unfold numK
  rw [List.range_succ, List.flatMap_append]
  simp
theorem numK_y {n d us k : Nat} {l : List Nat} (h : us / 2 ^ k % 2 = 0) : numK n d l us (k + 1) = numK n d l us k ++ numA n d (l ++ [k]) (us ||| 1 * 2 ^ k) := by rw [numK_s, if_pos h]
theorem numK_n {n d us k : Nat} {l : List Nat} (h : ¬ us / 2 ^ k % 2 = 0) : numK n d l us (k + 1) = numK n d l us k := by rw [numK_s, if_neg h, List.append_nil]
theorem numK_mono {n d us k : Nat} {l : List Nat} : ∀ e, (numK n d l us k).length ≤ (numK n d l us (k + e)).length
  | 0 => Nat.le_refl _
  | e + 1 => by
    have ih := numK_mono (n := n) (d := d) (us := us) (k := k) (l := l) e
    rw [show k + (e + 1) = k + e + 1 from rfl, numK_s, List.length_append]
    omega
theorem numK_le {n d us k : Nat} {l : List Nat} (hk : k ≤ n) : (numK n d l us k).length ≤ (numA n (d + 1) l us).length := by
  have := numK_mono (n := n) (d := d) (us := us) (k := k) (l := l) (n - k)
  rw [show k + (n - k) = n by omega] at this
  exact this
def NumF (pl : List (List Nat)) (fn : Nat → Int32) : Prop := ∀ q, q < pl.length → ∀ i, i < 4 → fn (4 * q + i) = nI ((pl.getD q []).getD i 0)
theorem NumF.snoc {pl : List (List Nat)} {π : List Nat} {fn : Nat → Int32} {k : Nat} (h : NumF pl fn) (h2 : ∀ t, t < k → fn (4 * pl.length + t) = nI (π.getD t 0)) (hk : 4 ≤ k) : NumF (pl ++ [π]) fn := by
  intro q hq t ht
  rw [List.length_append, List.length_singleton] at hq
  by_cases he : q = pl.length
  · rw [he, h2 t (by omega), pl_eq]
  · rw [h q (by omega) t ht, pl_lt (by omega)]
theorem NumF.up {pl : List (List Nat)} {fn : Nat → Int32} {j : Nat} {v : Int32} (h : NumF pl fn) (hj : 4 * pl.length ≤ j) : NumF pl (upd fn j v) := by
  intro q hq t ht
  rw [upd, if_neg (by omega)]; exact h q hq t ht
theorem pmX_get {n k : Nat} {l : List Nat} (hk : k < 4) : (pmX n l).getD k 0 = if k < n then l.getD k 0 else k := by
  rcases (by omega : k = 0 ∨ k = 1 ∨ k = 2 ∨ k = 3) with rfl | rfl | rfl | rfl <;> rfl
theorem num_fl {f : Nat → Int32} {π : List Nat} {b k : Nat} {v : Int32} (h : ∀ t, t < k → f (b + t) = nI (π.getD t 0)) (hv : v = nI (π.getD k 0)) : ∀ t, t < k + 1 → upd f (b + k) v (b + t) = nI (π.getD t 0) := by
  intro t ht
  rw [upd]
  by_cases he : t = k
  · rw [if_pos (by omega), he, hv]
  · rw [if_neg (by omega)]; exact h t (by omega)
theorem nam_s {f : Nat → Int32} {l : List Nat} {k : Nat} (h : ∀ i, i < l.length → f i = nI (l.getD i 0)) : ∀ i, i < (l ++ [k]).length → upd f l.length (nI k) i = nI ((l ++ [k]).getD i 0) := by
  intro i hi
  rw [List.length_append, List.length_singleton] at hi
  rw [upd]
  by_cases he : i = l.length
  · rw [if_pos he, he, getD_S_eq]
  · rw [if_neg he, getD_S_lt (by omega)]; exact h i (by omega)
theorem and1 (x : Nat) : x &&& 1 = x % 2 := Nat.and_two_pow_sub_one_eq_mod x 1
theorem us_lt {us k : Nat} (h : us < 16) (hk : k < 4) : us ||| 1 * 2 ^ k < 16 := by
  have h2 : 1 * 2 ^ k < 2 ^ 4 := by
    rw [Nat.one_mul]; exact Nat.pow_lt_pow_right (by decide) hk
  exact Nat.or_lt_two_pow (n := 4) h h2
theorem WW.reord {G : GG} {A : Nat → Prop} {s : State} {ws ws' : va_W} {H : Heap} {locs : List Loc} (is : List Nat) (h : WW G A s ws H locs) (hp : is.isPerm (List.range ws.length) = true) (he : is.map (fun i => ws[i]?) = ws'.map some) : WW G A s ws' H locs := by
  refine h.perm ?_
  have h1 : List.Perm (is.map (fun i => ws[i]?)) ((List.range ws.length).map (fun i => ws[i]?)) := List.Perm.map _ (List.isPerm_iff.mp hp)
  have h2 : (List.range ws.length).map (fun i => ws[i]?) = ws.map some := by
    apply List.ext_getElem?
    intro i
    rw [List.getElem?_map, List.getElem?_map]
    by_cases hi : i < ws.length
    · rw [List.getElem?_range hi, List.getElem?_eq_getElem hi]; simp [hi]
    · rw [List.getElem?_eq_none (by rw [List.length_range]; omega), List.getElem?_eq_none (by omega)]; rfl
  rw [he, h2] at h1
  have h3 := List.Perm.filterMap id h1
  simp only [List.filterMap_map] at h3
  have h4 : ∀ l : va_W, l.filterMap (id ∘ some) = l := fun l => by
    induction l with
    | nil => rfl
    | cons a l ih => simp
  rw [h4, h4] at h3
  exact h3.symm
