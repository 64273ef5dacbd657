-- PURE: the table that finds forms
def slN (v : Int64) (e : Nat) : Nat := ((((v * (-7046029254386353131)).toUInt64 >>> ((nI 40).toInt64.toUInt64 &&& Int64.toUInt64 63)).toInt64).toInt32).toBitVec.toNat % 2 ^ e
theorem no_inj : ∀ (n m : Nat) (f : Nat → Nat), (∀ i, i < n → f i < m) → (∀ i j, i < n → j < n → f i = f j → i = j) → n ≤ m := by
  intro n
  induction n with
  | zero => intro m f _ _; omega
  | succ n ih =>
    intro m f h1 h2
    have hn := h1 n (by omega)
    have := ih (m - 1) (fun i => if f i < f n then f i else f i - 1) (fun i hi => by
      have a := h1 i (by omega)
      have b : f i ≠ f n := fun z => by have := h2 i n (by omega) (by omega) z; omega
      show (if f i < f n then f i else f i - 1) < m - 1
      split <;> omega) (fun i j hi hj hij => by
      have bi : f i ≠ f n := fun z => by have := h2 i n (by omega) (by omega) z; omega
      have bj : f j ≠ f n := fun z => by have := h2 j n (by omega) (by omega) z; omega
      have hij : (if f i < f n then f i else f i - 1) = (if f j < f n then f j else f j - 1) := hij
      apply h2 i j (by omega) (by omega)
      split at hij <;> split at hij <;> omega)
    omega
/-- the table holds the places of mn forms, each within reach of its slot -/
def TInv (e : Nat) (tb : Nat → Int32) (fm : Nat → Int64) (mn : Nat) : Prop :=
  (∀ p, p < 2 ^ e → tb p = -1 ∨ ∃ j, j < mn ∧ tb p = nI j) ∧
  (∀ j, j < mn → ∃ d, d < 2 ^ e ∧ tb ((slN (fm j) e + d) % 2 ^ e) = nI j ∧ ∀ d', d' < d → tb ((slN (fm j) e + d') % 2 ^ e) ≠ -1) ∧
  (∀ p p' j, p < 2 ^ e → p' < 2 ^ e → j < mn → tb p = nI j → tb p' = nI j → p = p')
/-- where a form is, or would come -/
def FR (e : Nat) (tb : Nat → Int32) (fm : Nat → Int64) (mn : Nat) (v : Int64) (p : Nat) : Prop :=
  p < 2 ^ e ∧ ((tb p = -1 ∧ (∀ j, j < mn → fm j ≠ v) ∧ ∃ d, d < 2 ^ e ∧ p = (slN v e + d) % 2 ^ e ∧ ∀ d', d' < d → tb ((slN v e + d') % 2 ^ e) ≠ -1) ∨ ∃ j, j < mn ∧ tb p = nI j ∧ fm j = v)
theorem nI_neg {j : Nat} (h : j < 2147483648) : nI j ≠ -1 := by
  intro z
  have h1 := congrArg Int32.toInt z
  rw [nI_toInt h] at h1
  have h2 : (-1 : Int32).toInt = -1 := by decide
  omega
theorem TInv.init (e : Nat) (fm : Nat → Int64) {tb : Nat → Int32} (h : ∀ p, p < 2 ^ e → tb p = -1) : TInv e tb fm 0 := ⟨fun p hp => Or.inl (h p hp), fun j hj => absurd hj (Nat.not_lt_zero _), fun p p' j _ _ hj => absurd hj (Nat.not_lt_zero _)⟩
theorem TInv.hole {e : Nat} {tb : Nat → Int32} {fm : Nat → Int64} {mn : Nat} (h : TInv e tb fm mn) (hm : mn < 2 ^ e) (hb : mn < 2147483648) : ∃ p, p < 2 ^ e ∧ tb p = -1 := by
  apply Classical.byContradiction
  intro hc
  have key : ∀ p, ∃ j, p < 2 ^ e → j < mn ∧ tb p = nI j := by
    intro p
    by_cases hp : p < 2 ^ e
    · rcases h.1 p hp with h1 | ⟨j, h1, h2⟩
      · exact absurd ⟨p, hp, h1⟩ hc
      · exact ⟨j, fun _ => ⟨h1, h2⟩⟩
    · exact ⟨0, fun z => absurd z hp⟩
  have := no_inj (2 ^ e) mn (fun p => Classical.choose (key p)) (fun p hp => (Classical.choose_spec (key p) hp).1) (fun p p' hp hp' he => by
    have a := Classical.choose_spec (key p) hp
    have b := Classical.choose_spec (key p') hp'
    have he : Classical.choose (key p) = Classical.choose (key p') := he
    rw [← he] at b
    exact h.2.2 p p' _ hp hp' a.1 a.2 b.2)
  omega
theorem hole_d {e : Nat} {tb : Nat → Int32} {v : Int64} {p : Nat} (hp : p < 2 ^ e) (h : tb p = -1) : ∃ d, d < 2 ^ e ∧ tb ((slN v e + d) % 2 ^ e) = -1 := by
  have hs : slN v e < 2 ^ e := Nat.mod_lt _ (by omega)
  by_cases hc : slN v e ≤ p
  · refine ⟨p - slN v e, by omega, ?_⟩
    rw [show slN v e + (p - slN v e) = p by omega, Nat.mod_eq_of_lt hp]; exact h
  · refine ⟨2 ^ e + p - slN v e, by omega, ?_⟩
    rw [show slN v e + (2 ^ e + p - slN v e) = p + 2 ^ e by omega, Nat.add_mod_right, Nat.mod_eq_of_lt hp]; exact h
/-- the search so far: d places, none empty, none it -/
def FP (e : Nat) (tb : Nat → Int32) (fm : Nat → Int64) (mn : Nat) (v : Int64) (d : Nat) : Prop := ∀ d', d' < d → tb ((slN v e + d') % 2 ^ e) ≠ -1 ∧ ∀ j, j < mn → tb ((slN v e + d') % 2 ^ e) = nI j → fm j ≠ v
theorem FP.empty {e : Nat} {tb : Nat → Int32} {fm : Nat → Int64} {mn : Nat} {v : Int64} {d : Nat} (h : FP e tb fm mn v d) (hI : TInv e tb fm mn) (hm : mn < 2147483648) (hd : d < 2 ^ e) (ht : tb ((slN v e + d) % 2 ^ e) = -1) : FR e tb fm mn v ((slN v e + d) % 2 ^ e) := by
  refine ⟨Nat.mod_lt _ (by omega), Or.inl ⟨ht, fun j hj hv => ?_, d, hd, rfl, fun d' hd' => (h d' hd').1⟩⟩
  obtain ⟨dj, h1, h2, h3⟩ := hI.2.1 j hj
  rw [hv] at h2 h3
  rcases Nat.lt_trichotomy dj d with hlt | rfl | hgt
  · exact (h dj hlt).2 j hj h2 hv
  · rw [ht] at h2
    exact nI_neg (by omega) h2.symm
  · exact h3 d hgt ht
theorem FP.next {e : Nat} {tb : Nat → Int32} {fm : Nat → Int64} {mn : Nat} {v : Int64} {d j : Nat} (h : FP e tb fm mn v d) (hm : mn < 2147483648) (hj : j < mn) (ht : tb ((slN v e + d) % 2 ^ e) = nI j) (hv : fm j ≠ v) : FP e tb fm mn v (d + 1) := by
  intro d' hd'
  by_cases he : d' = d
  · rw [he, ht]
    refine ⟨nI_neg (by omega), fun j' hj' hz => ?_⟩
    have := (nI_eq (by omega) (by omega)).mp hz
    rw [← this]; exact hv
  · exact h d' (by omega)
/-- one more -/
theorem TInv.put {e : Nat} {tb : Nat → Int32} {fm fm' : Nat → Int64} {mn p : Nat} {v : Int64} (h : TInv e tb fm mn) (hm : mn < 2147483647) (hr : FR e tb fm mn v p) (hn : ∀ j, j < mn → fm j ≠ v) (h1 : ∀ j, j < mn → fm' j = fm j) (h2 : fm' mn = v) : TInv e (upd tb p (nI mn)) fm' (mn + 1) := by
  obtain ⟨hp, hr⟩ := hr
  rcases hr with ⟨ht, -, d, hd, hpd, hpath⟩ | ⟨j, hj, -, hv⟩
  · refine ⟨fun q hq => ?_, fun j hj => ?_, fun q q' j hq hq' hj ha hb => ?_⟩
    · unfold upd
      by_cases he : q = p
      · rw [if_pos he]; exact Or.inr ⟨mn, by omega, rfl⟩
      · rw [if_neg he]
        rcases h.1 q hq with a | ⟨j, a, b⟩
        · exact Or.inl a
        · exact Or.inr ⟨j, by omega, b⟩
    · have keep : ∀ q, tb q ≠ -1 → upd tb p (nI mn) q ≠ -1 := fun q hq => by
        unfold upd
        split
        · exact nI_neg (by omega)
        · exact hq
      by_cases he : j = mn
      · subst he
        rw [h2]
        exact ⟨d, hd, by rw [← hpd, upd, if_pos rfl], fun d' hd' => keep _ (hpath d' hd')⟩
      · obtain ⟨dj, a, b, c⟩ := h.2.1 j (by omega)
        rw [h1 j (by omega)]
        refine ⟨dj, a, ?_, fun d' hd' => keep _ (c d' hd')⟩
        rw [upd, if_neg]
        · exact b
        · intro z
          rw [z, ht] at b
          exact nI_neg (by omega) b.symm
    · unfold upd at ha hb
      by_cases e1 : q = p <;> by_cases e2 : q' = p
      · omega
      · rw [if_pos e1] at ha
        rw [if_neg e2] at hb
        have := (nI_eq (by omega) (by omega)).mp ha
        rcases h.1 q' hq' with a | ⟨j', a, b⟩
        · rw [a] at hb; exact absurd hb.symm (nI_neg (by omega))
        · rw [b] at hb
          have := (nI_eq (by omega) (by omega)).mp hb
          omega
      · rw [if_neg e1] at ha
        rw [if_pos e2] at hb
        have := (nI_eq (by omega) (by omega)).mp hb
        rcases h.1 q hq with a | ⟨j', a, b⟩
        · rw [a] at ha; exact absurd ha.symm (nI_neg (by omega))
        · rw [b] at ha
          have := (nI_eq (by omega) (by omega)).mp ha
          omega
      · rw [if_neg e1] at ha
        rw [if_neg e2] at hb
        by_cases hj' : j < mn
        · exact h.2.2 q q' j hq hq' hj' ha hb
        · rcases h.1 q hq with a | ⟨j', a, b⟩
          · rw [a] at ha; exact absurd ha.symm (nI_neg (by omega))
          · rw [b] at ha
            have := (nI_eq (by omega) (by omega)).mp ha
            omega
  · exact absurd hv (hn j hj)
theorem pow_and (x e : Nat) : x &&& (2 ^ e - 1) = x % 2 ^ e := Nat.and_two_pow_sub_one_eq_mod x e
theorem mod_succ (a b T : Nat) : (a % T + 1) % T = (a + 1) % T := by rw [Nat.mod_add_mod]
