-- PURE: wholes, insertion, packing (no program in sight)
/-- a whole: the states of four nodes, the codes on their way in order -/
abbrev Wh : Type := List Nat × List Nat
def ins (c : Nat) : List Nat → List Nat
  | [] => [c]
  | a :: l => if a ≤ c then a :: ins c l else c :: a :: l
theorem ins_len (c : Nat) : ∀ l : List Nat, (ins c l).length = l.length + 1
  | [] => rfl
  | a :: l => by unfold ins; split <;> simp [ins_len c l]
theorem ins_mem {c x : Nat} : ∀ {l : List Nat}, x ∈ ins c l ↔ x = c ∨ x ∈ l
  | [] => by simp [ins]
  | a :: l => by
    unfold ins
    split
    · simp only [List.mem_cons, ins_mem (l := l)]
      constructor
      · rintro (h | h | h)
        · exact Or.inr (Or.inl h)
        · exact Or.inl h
        · exact Or.inr (Or.inr h)
      · rintro (h | h | h)
        · exact Or.inr (Or.inl h)
        · exact Or.inl h
        · exact Or.inr (Or.inr h)
    · simp only [List.mem_cons]
abbrev Srt (l : List Nat) : Prop := l.Pairwise (· ≤ ·)
theorem ins_srt {c : Nat} : ∀ {l : List Nat}, Srt l → Srt (ins c l)
  | [], _ => by simp [ins]
  | a :: l, h => by
    obtain ⟨h1, h2⟩ := List.pairwise_cons.mp h
    unfold ins
    split
    · rename_i ha
      refine List.pairwise_cons.mpr ⟨fun x hx => ?_, ins_srt h2⟩
      rcases ins_mem.mp hx with rfl | hx
      · exact ha
      · exact h1 x hx
    · rename_i ha
      refine List.pairwise_cons.mpr ⟨fun x hx => ?_, h⟩
      rcases List.mem_cons.mp hx with rfl | hx
      · omega
      · have := h1 x hx
        omega
/-- what stands at a place behind the insertion, where k elements stay ahead -/
theorem ins_get {c : Nat} : ∀ {l : List Nat} {k : Nat}, k ≤ l.length → (∀ i, i < k → l.getD i 0 ≤ c) → (∀ i, k ≤ i → i < l.length → c < l.getD i 0) → ∀ i, (ins c l).getD i 0 = if i < k then l.getD i 0 else if i = k then c else l.getD (i - 1) 0
  | [], k, hk, _, _, i => by
    have hk0 : k = 0 := by simpa using hk
    subst hk0
    cases i with
    | zero => simp [ins]
    | succ i => simp [ins]
  | a :: l, k, hk, h1, h2, i => by
    unfold ins
    cases k with
    | zero =>
      have ha : c < a := by simpa using h2 0 (Nat.le_refl _) (by simp)
      rw [if_neg (by omega)]
      cases i with
      | zero => simp
      | succ i => simp
    | succ k =>
      have ha : a ≤ c := by simpa using h1 0 (by omega)
      rw [if_pos ha]
      cases i with
      | zero => simp
      | succ i =>
        have ih := ins_get (c := c) (l := l) (k := k) (by simpa using hk) (fun j hj => by simpa using h1 (j + 1) (by omega)) (fun j hj hj2 => by simpa using h2 (j + 1) (by omega) (by simpa using hj2)) i
        simp only [List.getD_cons_succ, ih]
        by_cases hik : i < k
        · rw [if_pos hik, if_pos (show i + 1 < k + 1 by omega)]
        · rw [if_neg hik, if_neg (show ¬ i + 1 < k + 1 by omega)]
          by_cases hie : i = k
          · rw [if_pos hie, if_pos (show i + 1 = k + 1 by omega)]
          · rw [if_neg hie, if_neg (show ¬ i + 1 = k + 1 by omega)]
            have : i + 1 - 1 = (i - 1) + 1 := by omega
            rw [this, List.getD_cons_succ]
theorem srt_le {l : List Nat} (h : Srt l) {i j : Nat} (hij : i ≤ j) (hj : j < l.length) : l.getD i 0 ≤ l.getD j 0 := by
  rcases Nat.eq_or_lt_of_le hij with rfl | hlt
  · exact Nat.le_refl _
  · have h1 := List.pairwise_iff_getElem.mp h i j (by omega) hj hlt
    simpa [List.getD_eq_getElem?_getD, List.getElem?_eq_getElem (show i < l.length by omega), List.getElem?_eq_getElem hj] using h1
/-- ints of a list, from a place on -/
def Cds (f : Nat → Int32) (o : Nat) (cs : List Nat) : Prop := ∀ i, i < cs.length → f (o + i) = nI (cs.getD i 0)
/-- the insertion as both programs make it: those greater than c moved up by one, c at its place -/
theorem ins_row {f : Nat → Int32} {o k c : Nat} {cs : List Nat} (hs : Srt cs) (hk : k ≤ cs.length) (h0 : 0 < k → cs.getD (k - 1) 0 ≤ c) (hg : ∀ i, k ≤ i → i < cs.length → c < cs.getD i 0)
    (h1 : ∀ i, i < k → f (o + i) = nI (cs.getD i 0)) (h2 : ∀ i, k ≤ i → i < cs.length → f (o + i + 1) = nI (cs.getD i 0)) : Cds (upd f (o + k) (nI c)) o (ins c cs) := by
  intro i hi
  rw [ins_len] at hi
  rw [ins_get hk (fun j hj => Nat.le_trans (srt_le hs (show j ≤ k - 1 by omega) (by omega)) (h0 (by omega))) hg i]
  unfold upd
  by_cases hik : i < k
  · rw [if_pos hik, if_neg (by omega)]; exact h1 i hik
  · rw [if_neg hik]
    by_cases hie : i = k
    · rw [if_pos hie, if_pos (by omega)]
    · rw [if_neg hie, if_neg (by omega)]
      have := h2 (i - 1) (by omega) (by omega)
      rwa [show o + (i - 1) + 1 = o + i by omega] at this
/-- the numbers of a whole in a row: states, how many codes, codes -/
def dg (w : Wh) (k : Nat) : Nat := if k < 4 then w.1.getD k 0 else if k = 4 then w.2.length else w.2.getD (k - 5) 0
def pkN (w : Wh) : Nat → Nat
  | 0 => 0
  | k + 1 => pkN w k * (if k < 5 then 8 else 128) + dg w k
/-- a whole as one number -/
def pk (w : Wh) : Nat := pkN w 12
def Vl (n : Nat) (w : Wh) : Prop := w.1.length = 4 ∧ (∀ i, w.1.getD i 0 < 8) ∧ (∀ i, n ≤ i → w.1.getD i 0 = 0) ∧ w.2.length ≤ 7 ∧ (∀ c ∈ w.2, c < 96 ∧ c % 4 < n ∧ c / 4 % 4 < n) ∧ Srt w.2
theorem Vl.cd {n : Nat} {w : Wh} (h : Vl n w) (i : Nat) : w.2.getD i 0 < 96 := by
  by_cases hi : i < w.2.length
  · rw [List.getD_eq_getElem?_getD, List.getElem?_eq_getElem hi]
    exact (h.2.2.2.2.1 _ (List.getElem_mem hi)).1
  · rw [List.getD_eq_getElem?_getD, List.getElem?_eq_none (by omega)]
    decide
theorem Vl.dg8 {n : Nat} {w : Wh} (h : Vl n w) {k : Nat} (hk : k < 5) : dg w k < 8 := by
  unfold dg
  split
  · exact h.2.1 k
  · rw [if_pos (by omega)]
    have := h.2.2.2.1
    omega
theorem Vl.dg128 {n : Nat} {w : Wh} (h : Vl n w) (k : Nat) : dg w k < 96 := by
  by_cases hk : k < 5
  · have := h.dg8 hk
    omega
  · unfold dg
    rw [if_neg (by omega), if_neg (by omega)]
    exact h.cd _
theorem pk_eq0 (w : Wh) : pk w = ((((((((((dg w 0 * 8 + dg w 1) * 8 + dg w 2) * 8 + dg w 3) * 8 + dg w 4) * 128 + dg w 5) * 128 + dg w 6) * 128 + dg w 7) * 128 + dg w 8) * 128 + dg w 9) * 128 + dg w 10) * 128 + dg w 11 := by
  simp [pk, pkN]
theorem Vl.all {n : Nat} {w : Wh} (h : Vl n w) : dg w 0 < 8 ∧ dg w 1 < 8 ∧ dg w 2 < 8 ∧ dg w 3 < 8 ∧ dg w 4 < 8 ∧ dg w 5 < 96 ∧ dg w 6 < 96 ∧ dg w 7 < 96 ∧ dg w 8 < 96 ∧ dg w 9 < 96 ∧ dg w 10 < 96 ∧ dg w 11 < 96 :=
  ⟨h.dg8 (by decide), h.dg8 (by decide), h.dg8 (by decide), h.dg8 (by decide), h.dg8 (by decide), h.dg128 _, h.dg128 _, h.dg128 _, h.dg128 _, h.dg128 _, h.dg128 _, h.dg128 _⟩
theorem pk_lt64 {n : Nat} {w : Wh} (h : Vl n w) : pk w < 18446744073709551616 := by
  obtain ⟨h0, h1, h2, h3, h4, h5, h6, h7, h8, h9, h10, h11⟩ := h.all
  rw [pk_eq0]; omega
/-- two wholes with a common beginning, and a first place at which they differ -/
theorem pk_less {n m : Nat} {a b : Wh} (ha : Vl n a) (hb : Vl m b) {k : Nat} (hk : k < 12) (he : ∀ i, i < k → dg a i = dg b i) (hl : dg a k < dg b k) : pk a < pk b := by
  obtain ⟨h0, h1, h2, h3, h4, h5, h6, h7, h8, h9, h10, h11⟩ := ha.all
  obtain ⟨g0, g1, g2, g3, g4, g5, g6, g7, g8, g9, g10, g11⟩ := hb.all
  rw [pk_eq0, pk_eq0]
  match k, hk with
  | 0, _ => omega
  | 1, _ => have e0 := he 0 (by decide); omega
  | 2, _ => have e0 := he 0 (by decide); have e1 := he 1 (by decide); omega
  | 3, _ => have e0 := he 0 (by decide); have e1 := he 1 (by decide); have e2 := he 2 (by decide); omega
  | 4, _ => have e0 := he 0 (by decide); have e1 := he 1 (by decide); have e2 := he 2 (by decide); have e3 := he 3 (by decide); omega
  | 5, _ => have e0 := he 0 (by decide); have e1 := he 1 (by decide); have e2 := he 2 (by decide); have e3 := he 3 (by decide); have e4 := he 4 (by decide); omega
  | 6, _ => have e0 := he 0 (by decide); have e1 := he 1 (by decide); have e2 := he 2 (by decide); have e3 := he 3 (by decide); have e4 := he 4 (by decide); have e5 := he 5 (by decide); omega
  | 7, _ => have e0 := he 0 (by decide); have e1 := he 1 (by decide); have e2 := he 2 (by decide); have e3 := he 3 (by decide); have e4 := he 4 (by decide); have e5 := he 5 (by decide); have e6 := he 6 (by decide); omega
  | 8, _ => have e0 := he 0 (by decide); have e1 := he 1 (by decide); have e2 := he 2 (by decide); have e3 := he 3 (by decide); have e4 := he 4 (by decide); have e5 := he 5 (by decide); have e6 := he 6 (by decide); have e7 := he 7 (by decide); omega
  | 9, _ => have e0 := he 0 (by decide); have e1 := he 1 (by decide); have e2 := he 2 (by decide); have e3 := he 3 (by decide); have e4 := he 4 (by decide); have e5 := he 5 (by decide); have e6 := he 6 (by decide); have e7 := he 7 (by decide); have e8 := he 8 (by decide); omega
  | 10, _ => have e0 := he 0 (by decide); have e1 := he 1 (by decide); have e2 := he 2 (by decide); have e3 := he 3 (by decide); have e4 := he 4 (by decide); have e5 := he 5 (by decide); have e6 := he 6 (by decide); have e7 := he 7 (by decide); have e8 := he 8 (by decide); have e9 := he 9 (by decide); omega
  | 11, _ => have e0 := he 0 (by decide); have e1 := he 1 (by decide); have e2 := he 2 (by decide); have e3 := he 3 (by decide); have e4 := he 4 (by decide); have e5 := he 5 (by decide); have e6 := he 6 (by decide); have e7 := he 7 (by decide); have e8 := he 8 (by decide); have e9 := he 9 (by decide); have e10 := he 10 (by decide); omega
/-- unpacking -/
theorem pk_st {n : Nat} {w : Wh} (h : Vl n w) : pk w / 2305843009213693952 % 8 = dg w 0 ∧ pk w / 288230376151711744 % 8 = dg w 1 ∧ pk w / 36028797018963968 % 8 = dg w 2 ∧ pk w / 4503599627370496 % 8 = dg w 3 ∧ pk w / 562949953421312 % 8 = dg w 4 := by
  obtain ⟨h0, h1, h2, h3, h4, h5, h6, h7, h8, h9, h10, h11⟩ := h.all
  rw [pk_eq0]
  refine ⟨?_, ?_, ?_, ?_, ?_⟩ <;> omega
theorem pk_cd {n : Nat} {w : Wh} (h : Vl n w) : pk w / 4398046511104 % 128 = dg w 5 ∧ pk w / 34359738368 % 128 = dg w 6 ∧ pk w / 268435456 % 128 = dg w 7 ∧ pk w / 2097152 % 128 = dg w 8 ∧ pk w / 16384 % 128 = dg w 9 ∧ pk w / 128 % 128 = dg w 10 ∧ pk w / 1 % 128 = dg w 11 := by
  obtain ⟨h0, h1, h2, h3, h4, h5, h6, h7, h8, h9, h10, h11⟩ := h.all
  rw [pk_eq0]
  refine ⟨?_, ?_, ?_, ?_, ?_, ?_, ?_⟩ <;> omega
theorem wh_ext {a b : Wh} (h1 : a.1.length = b.1.length) (h2 : ∀ i, i < a.1.length → a.1.getD i 0 = b.1.getD i 0) (h3 : a.2.length = b.2.length) (h4 : ∀ i, i < a.2.length → a.2.getD i 0 = b.2.getD i 0) : a = b := by
  have key : ∀ (x y : List Nat), x.length = y.length → (∀ i, i < x.length → x.getD i 0 = y.getD i 0) → x = y := by
    intro x y hl he
    apply List.ext_getElem hl
    intro i hx hy
    have := he i hx
    simpa [List.getD_eq_getElem?_getD, List.getElem?_eq_getElem hx, List.getElem?_eq_getElem hy] using this
  exact Prod.ext (key _ _ h1 h2) (key _ _ h3 h4)
theorem dg_ext {n m : Nat} {a b : Wh} (ha : Vl n a) (hb : Vl m b) (h : ∀ k, k < 12 → dg a k = dg b k) : a = b := by
  have h4 : a.2.length = b.2.length := by simpa [dg] using h 4 (by decide)
  refine wh_ext (by rw [ha.1, hb.1]) (fun i hi => ?_) h4 (fun i hi => ?_)
  · rw [ha.1] at hi
    have := h i (by omega)
    simpa [dg, hi] using this
  · have hl := ha.2.2.2.1
    have := h (i + 5) (by omega)
    simpa [dg, show ¬ i + 5 < 4 by omega, show ¬ i + 5 = 4 by omega] using this
theorem pk_inj {n m : Nat} {a b : Wh} (ha : Vl n a) (hb : Vl m b) (h : pk a = pk b) : a = b := by
  have a1 := pk_st ha; have b1 := pk_st hb; have a2 := pk_cd ha; have b2 := pk_cd hb
  rw [h] at a1 a2
  refine dg_ext ha hb (fun k hk => ?_)
  match k, hk with
  | 0, _ => omega
  | 1, _ => omega
  | 2, _ => omega
  | 3, _ => omega
  | 4, _ => omega
  | 5, _ => omega
  | 6, _ => omega
  | 7, _ => omega
  | 8, _ => omega
  | 9, _ => omega
  | 10, _ => omega
  | 11, _ => omega
