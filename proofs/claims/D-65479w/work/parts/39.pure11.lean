-- PURE: wholes as rows of ints (the reference)
def Row (f : Nat → Int32) (o : Nat) (w : Wh) : Prop := ∀ k, k < 5 + w.2.length → f (o + k) = nI (dg w k)
theorem Row.mk {f : Nat → Int32} {o : Nat} {w : Wh} (h1 : ∀ i, i < 4 → f (o + i) = nI (dg w i)) (h2 : f (o + 4) = nI w.2.length) (h3 : ∀ i, i < w.2.length → f (o + (5 + i)) = nI (w.2.getD i 0)) : Row f o w := by
  intro k hk
  by_cases h : k < 4
  · exact h1 k h
  · by_cases h4 : k = 4
    · subst h4; exact h2
    · obtain ⟨i, rfl⟩ : ∃ i, k = 5 + i := ⟨k - 5, by omega⟩
      rw [h3 i (by omega), dg_cd]
theorem Row.st {f : Nat → Int32} {o : Nat} {w : Wh} (h : Row f o w) {i : Nat} (hi : i < 4) : f (o + i) = nI (dg w i) := h i (by omega)
theorem Row.n {f : Nat → Int32} {o : Nat} {w : Wh} (h : Row f o w) : f (o + 4) = nI w.2.length := h 4 (by omega)
theorem Row.cd {f : Nat → Int32} {o : Nat} {w : Wh} (h : Row f o w) {i : Nat} (hi : i < w.2.length) : f (o + 5 + i) = nI (w.2.getD i 0) := by
  rw [Nat.add_assoc, h (5 + i) (by omega), dg_cd]
theorem Row.cds {f : Nat → Int32} {w : Wh} (h : Row f 0 w) : Cds f 5 w.2 := fun i hi => by
  have := h.cd hi
  rwa [Nat.zero_add] at this
theorem Pm.in {n : Nat} {π : List Nat} (h : Pm n π) {j : Nat} (hj : j < n) (hn : n ≤ 4) : π.idxOf j < n := by
  obtain ⟨a, b⟩ := h.2.2.1 j (by omega)
  rcases Nat.lt_or_ge (π.idxOf j) n with h1 | h1
  · exact h1
  · have h2 := h.2.2.2.2 (π.idxOf j) h1 a
    -- the place idxOf j holds j, and the value idxOf j stands at its own place
    obtain ⟨-, d⟩ := h.2.2.1 (π.idxOf j) a
    rw [h2, b] at d
    omega
/-- the states as the reference lays them -/
theorem num_st {f : Nat → Int32} {π : List Nat} {w : Wh} {n k : Nat} (hp : Pm n π) (hV : Vl n w) (hn : n ≤ 4) (h1 : ∀ i, i < k → f (π.getD i 0) = nI (dg w i)) (h2 : ∀ j, n ≤ j → j < 4 → f j = nI 0) (hk : k = n) : ∀ j, j < 4 → f j = nI (dg (trn π w) j) := by
  intro j hj
  rw [trn_st hp hj]
  by_cases h : j < n
  · have hi := hp.in h hn
    rw [← h1 _ (by omega), (hp.2.2.1 j hj).2]
  · rw [hp.2.2.2.2 j (by omega) hj, h2 j (by omega) hj, dg_st _ hj, hV.2.2.1 j (by omega)]
theorem num_step {f : Nat → Int32} {π : List Nat} {w : Wh} {n k : Nat} (hp : Pm n π) (hn : n ≤ 4) (hk : k < n) (h1 : ∀ i, i < k → f (π.getD i 0) = nI (dg w i)) (h2 : ∀ j, n ≤ j → j < 5 → f j = nI 0) :
    (∀ i, i < k + 1 → upd f (π.getD k 0) (nI (dg w k)) (π.getD i 0) = nI (dg w i)) ∧ (∀ j, n ≤ j → j < 5 → upd f (π.getD k 0) (nI (dg w k)) j = nI 0) := by
  refine ⟨turn_st hp (by omega) h1, fun j a b => ?_⟩
  have := hp.2.2.2.1 k hk
  rw [upd, if_neg (by omega)]
  exact h2 j a b
def cmpN (a b : Nat) : Int32 := if a < b then -1 else if a = b then nI 0 else nI 1
theorem cmp_lt {a b : Nat} (h : a < b) : -1 = cmpN a b := by unfold cmpN; rw [if_pos h]
theorem cmp_gt {a b : Nat} (h : b < a) : nI 1 = cmpN a b := by unfold cmpN; rw [if_neg (by omega), if_neg (by omega)]
theorem cmp_eq {a b : Nat} (h : a = b) : nI 0 = cmpN a b := by unfold cmpN; rw [if_neg (by omega), if_pos h]
theorem dg_0 {w : Wh} {k : Nat} (h : 5 + w.2.length ≤ k) : dg w k = 0 := by
  obtain ⟨i, rfl⟩ : ∃ i, k = 5 + i := ⟨k - 5, by omega⟩
  exact ge_cs (by omega)
theorem row_eq {n m : Nat} {a b : Wh} (ha : Vl n a) (hb : Vl m b) (h : ∀ i, i < 5 + b.2.length → dg a i = dg b i) : a = b := by
  have h4 : a.2.length = b.2.length := h 4 (by omega)
  refine dg_ext ha hb (fun k hk => ?_)
  by_cases hc : k < 5 + b.2.length
  · exact h k hc
  · rw [dg_0 (w := b) (by omega), dg_0 (w := a) (by omega)]
theorem cmpN_neg {a b : Nat} (h : ¬ 0 ≤ cmpN a b) : a < b := by
  unfold cmpN at h
  split at h
  · assumption
  · split at h
    · exact absurd (by decide) h
    · exact absurd (by decide) h
theorem cmpN_pos {a b : Nat} (h : 0 < cmpN a b) : b < a := by
  unfold cmpN at h
  split at h
  · exact absurd h (by decide)
  · split at h
    · exact absurd h (by decide)
    · omega
theorem cmpN_ge {a b : Nat} (h : 0 ≤ cmpN a b) : b ≤ a := by
  unfold cmpN at h
  split at h
  · exact absurd h (by decide)
  · omega
theorem cmpN_z {a b : Nat} (h : 0 ≤ cmpN a b) (h2 : ¬ 0 < cmpN a b) : a = b := by
  unfold cmpN at h h2
  split at h
  · exact absurd h (by decide)
  · rename_i h1
    rw [if_neg h1] at h2
    split at h2
    · assumption
    · exact absurd (by decide) h2
theorem cmpN_0 {a b : Nat} (h : cmpN a b = 0) : a = b := cmpN_z (by rw [h]; decide) (by rw [h]; decide)
theorem cmpN_n0 {a b : Nat} (h : ¬ cmpN a b = 0) : a ≠ b := fun z => h (by rw [← cmp_eq z]; rfl)
/-- bad pairs don't mind the numbering -/
def SymB (B : Nat → Bool) : Prop := ∀ a b, a < 8 → b < 8 → B (8 * a + b) = B (8 * b + a)
def BadM (n : Nat) (B : Nat → Bool) (w : Wh) : Prop := ∃ i j, j < i ∧ i < n ∧ B (8 * dg w i + dg w j) = true
theorem bad_num {n : Nat} {B : Nat → Bool} {w : Wh} {π : List Nat} (hs : SymB B) (hp : Pm n π) (hV : Vl n w) (hn : n ≤ 4) : BadM n B (trn π w) ↔ BadW n B w := by
  have hd : ∀ j, j < n → dg (trn π w) j = dg w (π.idxOf j) := fun j hj => trn_st hp (by omega)
  have h8 : ∀ j, j < 4 → dg w j < 8 := fun j hj => hV.dg8 (by omega)
  constructor
  · rintro ⟨i, j, h1, h2, h3⟩
    have a1 := hp.in (show i < n from h2) hn
    have a2 := hp.in (show j < n by omega) hn
    rw [hd i h2, hd j (by omega)] at h3
    have hne : π.idxOf i ≠ π.idxOf j := fun z => by
      have b1 := (hp.2.2.1 i (by omega)).2
      have b2 := (hp.2.2.1 j (by omega)).2
      rw [z] at b1
      omega
    rcases Nat.lt_or_ge (π.idxOf i) (π.idxOf j) with h | h
    · exact ⟨_, _, h, a2, h3⟩
    · refine ⟨_, _, (by omega : π.idxOf j < π.idxOf i), a1, ?_⟩
      rw [hs _ _ (h8 _ (by omega)) (h8 _ (by omega))]; exact h3
  · rintro ⟨a, b, h1, h2, h3⟩
    have c1 := hp.2.2.2.1 a (by omega)
    have c2 := hp.2.2.2.1 b h2
    have e1 := (hp.2.1 a (by omega)).2
    have e2 := (hp.2.1 b (by omega)).2
    have hne : π.getD a 0 ≠ π.getD b 0 := fun z => by rw [z] at e1; omega
    rcases Nat.lt_or_ge (π.getD a 0) (π.getD b 0) with h | h
    · refine ⟨_, _, h, c2, ?_⟩
      rw [hd _ c2, hd _ c1, e1, e2, hs _ _ (h8 _ (by omega)) (h8 _ (by omega))]; exact h3
    · refine ⟨_, _, (by omega : π.getD b 0 < π.getD a 0), c1, ?_⟩
      rw [hd _ c2, hd _ c1, e1, e2]; exact h3
/-- the entries in order of their numbers -/
def OD (E : List Ent) (fo : Nat → Int32) : Prop := ∃ od : Nat → Nat, (∀ t, t < E.length → fo t = nI (od t) ∧ od t < E.length) ∧ (∀ t t', t < t' → t' < E.length → pk (E.getD (od t) eD).1 < pk (E.getD (od t') eD).1) ∧ (∀ k, k < E.length → ∃ t, t < E.length ∧ od t = k)
/-- where a form stands in that order -/
def ODat (E : List Ent) (od : Nat → Nat) (b : Wh) (lo : Nat) : Prop := lo ≤ E.length ∧ (∀ t, t < lo → pk (E.getD (od t) eD).1 < pk b) ∧ (∀ t, lo ≤ t → t < E.length → pk b ≤ pk (E.getD (od t) eD).1)
theorem OD.snoc {E : List Ent} {fo fo' : Nat → Int32} {lo : Nat} {b : Wh} {x : Int32 × Int32 × Nat × Nat} {od : Nat → Nat} (h1 : ∀ t, t < E.length → fo t = nI (od t) ∧ od t < E.length) (h2 : ∀ t t', t < t' → t' < E.length → pk (E.getD (od t) eD).1 < pk (E.getD (od t') eD).1) (h3 : ∀ k, k < E.length → ∃ t, t < E.length ∧ od t = k)
    (ha : ODat E od b lo) (hn : ∀ t, t < E.length → pk (E.getD t eD).1 ≠ pk b) (hf : ∀ t, t < E.length + 1 → fo' t = if t < lo then fo t else if t = lo then nI E.length else fo (t - 1)) : OD (E ++ [(b, x)]) fo' := by
  obtain ⟨g1, g2, g3⟩ := ha
  have hl : (E ++ [((b, x) : Ent)]).length = E.length + 1 := by rw [List.length_append]; rfl
  have get : ∀ k, k < E.length → (E ++ [((b, x) : Ent)]).getD k eD = E.getD k eD := fun k hk => getD_snoc_lt hk
  have getn : (E ++ [((b, x) : Ent)]).getD E.length eD = (b, x) := getD_snoc_eq
  have g3' : ∀ t, lo ≤ t → t < E.length → pk b < pk (E.getD (od t) eD).1 := fun t a c => by
    have d1 := g3 t a c
    have d2 := hn (od t) (h1 t c).2
    omega
  refine ⟨fun t => if t < lo then od t else if t = lo then E.length else od (t - 1), fun t ht => ?_, fun t t' htt ht' => ?_, fun k hk => ?_⟩
  · rw [hl] at ht ⊢
    rw [hf t ht]
    show _ = nI (if t < lo then od t else if t = lo then E.length else od (t - 1)) ∧ (if t < lo then od t else if t = lo then E.length else od (t - 1)) < _
    by_cases c1 : t < lo
    · rw [if_pos c1, if_pos c1]
      have := h1 t (by omega)
      exact ⟨this.1, by omega⟩
    · rw [if_neg c1, if_neg c1]
      by_cases c2 : t = lo
      · rw [if_pos c2, if_pos c2]; exact ⟨rfl, by omega⟩
      · rw [if_neg c2, if_neg c2]
        have := h1 (t - 1) (by omega)
        exact ⟨this.1, by omega⟩
  · rw [hl] at ht'
    show pk ((E ++ [((b, x) : Ent)]).getD (if t < lo then od t else if t = lo then E.length else od (t - 1)) eD).1 < pk ((E ++ [((b, x) : Ent)]).getD (if t' < lo then od t' else if t' = lo then E.length else od (t' - 1)) eD).1
    have o : ∀ u, u < E.length → (E ++ [((b, x) : Ent)]).getD (od u) eD = E.getD (od u) eD := fun u hu => get _ (h1 u hu).2
    by_cases c1 : t < lo
    · rw [if_pos c1, o t (by omega)]
      by_cases d1 : t' < lo
      · rw [if_pos d1, o t' (by omega)]; exact h2 t t' htt (by omega)
      · rw [if_neg d1]
        by_cases d2 : t' = lo
        · rw [if_pos d2, getn]; exact g2 t c1
        · rw [if_neg d2, o (t' - 1) (by omega)]
          exact Nat.lt_trans (g2 t c1) (g3' (t' - 1) (by omega) (by omega))
    · rw [if_neg c1, if_neg (show ¬ t' < lo by omega), if_neg (show ¬ t' = lo by omega)]
      by_cases c2 : t = lo
      · rw [if_pos c2, getn, o (t' - 1) (by omega)]; exact g3' (t' - 1) (by omega) (by omega)
      · rw [if_neg c2, o (t - 1) (by omega), o (t' - 1) (by omega)]; exact h2 (t - 1) (t' - 1) (by omega) (by omega)
  · rw [hl] at hk ⊢
    by_cases c : k = E.length
    · refine ⟨lo, by omega, ?_⟩
      show (if lo < lo then od lo else if lo = lo then E.length else od (lo - 1)) = k
      rw [if_neg (by omega), if_pos rfl, c]
    · obtain ⟨t, a1, a2⟩ := h3 k (by omega)
      by_cases d : t < lo
      · refine ⟨t, by omega, ?_⟩
        show (if t < lo then od t else if t = lo then E.length else od (t - 1)) = k
        rw [if_pos d]; exact a2
      · refine ⟨t + 1, by omega, ?_⟩
        show (if t + 1 < lo then od (t + 1) else if t + 1 = lo then E.length else od (t + 1 - 1)) = k
        rw [if_neg (by omega), if_neg (by omega)]; exact a2
/-- the reference's arrays of entries -/
def MR (E : List Ent) (S : List Nat) (fa : Nat → Nat → Int32) : Prop := (∀ k, k < E.length → Row (fa 9) (12 * k) (E.getD k eD).1 ∧ fa 11 k = nI (E.getD k eD).2.2.2.1 ∧ fa 12 k = (E.getD k eD).2.1 ∧ fa 13 k = (E.getD k eD).2.2.1 ∧ fa 15 k = nI (E.getD k eD).2.2.2.2 ∧ fa 14 k = (if k < S.length then nI (S.getD k 0) else -1)) ∧ OD E (fa 10)
def anF (ov : Nat) : Int32 := if ov = 1 then -2 else if ov = 2 then -1 else nI 0
