-- PURE: what is told to the reference
theorem MC.kp2 {n : Nat} {ps pm : List (List Nat)} {B : Nat → Bool} {fa fb : Nat → Nat → Int32} (h : MC n ps pm B fa) (h7 : fb 7 = fa 7) (h8 : fb 8 = fa 8) : MC n ps pm B fb := by
  obtain ⟨a, b, c, d, e, f, g, i, j, k⟩ := h
  exact ⟨a, b, by rw [h7]; exact c, d, e, f, g, i, by rw [h8]; exact j, k⟩
theorem MRl.kp2 {rs : List Rl} {fa fb : Nat → Nat → Int32} (h : MRl rs fa) (hk : ∀ i, i < 7 → fb i = fa i) : MRl rs fb := by
  obtain ⟨a, b, c, d⟩ := h
  refine ⟨a, b, c, ?_⟩
  rw [hk 1 (by decide), hk 2 (by decide), hk 3 (by decide), hk 4 (by decide), hk 5 (by decide), hk 6 (by decide)]
  exact d
theorem MR.nil {fa : Nat → Nat → Int32} : MR [] [] fa := ⟨fun k hk => absurd hk (Nat.not_lt_zero _), fun _ => 0, fun k hk => absurd hk (Nat.not_lt_zero _), fun k k1 _ hk => absurd hk (Nat.not_lt_zero _), fun k hk => absurd hk (Nat.not_lt_zero _)⟩
theorem rl_snoc_lt {rs : List Rl} {r : Rl} {i : Nat} (h : i < rs.length) : (rs ++ [r]).getD i rD = rs.getD i rD := by
  rw [List.getD_eq_getElem?_getD, List.getD_eq_getElem?_getD, List.getElem?_append_left h]
theorem rl_snoc_eq {rs : List Rl} {r : Rl} : (rs ++ [r]).getD rs.length rD = r := by
  rw [List.getD_eq_getElem?_getD, List.getElem?_append_right (Nat.le_refl _)]; simp
theorem MRl.snoc {rs : List Rl} {fa : Nat → Nat → Int32} {a b : Nat} {ev : Option Nat} (h : MRl rs fa) (hlt : rs.length < 40) (ha : a < 8) (hb : b < 8) (he : ∀ k, ev = some k → k < 6) :
    MRl (rs ++ [(a, ev, b, [])]) (va_up (va_up (va_up (va_up fa 1 (upd (fa 1) rs.length (nI a))) 2 (upd (fa 2) rs.length (evI ev))) 3 (upd (fa 3) rs.length (nI b))) 4 (upd (fa 4) rs.length (nI 0))) := by
  obtain ⟨h1, h2, h3, h4⟩ := h
  refine ⟨by rw [List.length_append, List.length_singleton]; omega, fun r hr => ?_, fun r hr => ?_, fun i hi => ?_⟩
  · rcases List.mem_append.mp hr with hr | hr
    · exact h2 r hr
    · rw [List.mem_singleton.mp hr]
      exact ⟨ha, he, hb, (fun s hs => absurd hs (by simp)), Nat.zero_le _⟩
  · rcases List.mem_append.mp hr with hr | hr
    · exact h3 r hr
    · rw [List.mem_singleton.mp hr]
      exact fun _ s hs => absurd hs (by simp)
  · rw [List.length_append, List.length_singleton] at hi
    show upd (fa 1) rs.length (nI a) i = _ ∧ upd (fa 2) rs.length (evI ev) i = _ ∧ upd (fa 3) rs.length (nI b) i = _ ∧ upd (fa 4) rs.length (nI 0) i = _ ∧ ∀ k, _ → fa 5 (4 * i + k) = _ ∧ fa 6 (4 * i + k) = _
    by_cases he : i = rs.length
    · subst he
      rw [rl_snoc_eq]
      exact ⟨by simp [upd], by simp [upd], by simp [upd], by simp [upd], fun k hk => absurd hk (Nat.not_lt_zero _)⟩
    · rw [rl_snoc_lt (by omega)]
      simp only [upd, if_neg he]
      exact h4 i (by omega)
theorem rl_set {rs : List Rl} {r : Rl} {i j : Nat} (hi : i < rs.length) : (rs.set i r).getD j rD = if j = i then r else rs.getD j rD := by
  rw [List.getD_eq_getElem?_getD, List.getElem?_set]
  by_cases h : i = j
  · subst h
    rw [if_pos rfl, if_pos hi, if_pos rfl]; rfl
  · rw [if_neg h, if_neg (fun z => h z.symm), List.getD_eq_getElem?_getD]
theorem sd_lt {l : List (Nat × Nat)} {x : Nat × Nat} {k : Nat} (h : k < l.length) : (l ++ [x]).getD k (0, 0) = l.getD k (0, 0) := by
  rw [List.getD_eq_getElem?_getD, List.getD_eq_getElem?_getD, List.getElem?_append_left h]
theorem sd_eq {l : List (Nat × Nat)} {x : Nat × Nat} : (l ++ [x]).getD l.length (0, 0) = x := by
  rw [List.getD_eq_getElem?_getD, List.getElem?_append_right (Nat.le_refl _)]; simp
theorem MRl.send {rs : List Rl} {fa : Nat → Nat → Int32} {i ms wh : Nat} (h : MRl rs fa) (hi : i < rs.length) (hms : ms < 6) (hwh : wh = 1 ∨ (wh = 0 ∧ (rs.getD i rD).2.1 ≠ none)) (hs4 : (rs.getD i rD).2.2.2.length < 4) :
    MRl (rs.set i ((rs.getD i rD).1, (rs.getD i rD).2.1, (rs.getD i rD).2.2.1, (rs.getD i rD).2.2.2 ++ [(ms, wh)])) (va_up (va_up (va_up fa 5 (upd (fa 5) (4 * i + (rs.getD i rD).2.2.2.length) (nI ms))) 6 (upd (fa 6) (4 * i + (rs.getD i rD).2.2.2.length) (nI wh))) 4 (upd (fa 4) i (nI ((rs.getD i rD).2.2.2.length + 1)))) := by
  obtain ⟨h1, h2, h3, h4⟩ := h
  have hR := h2 _ (rs_mem hi)
  have hN := h3 _ (rs_mem hi)
  refine ⟨by rw [List.length_set]; exact h1, fun r hr => ?_, fun r hr => ?_, fun j hj => ?_⟩
  · rcases List.mem_or_eq_of_mem_set hr with hr | hr
    · exact h2 r hr
    · rw [hr]
      refine ⟨hR.1, hR.2.1, hR.2.2.1, fun s hs => ?_, by rw [List.length_append, List.length_singleton]; omega⟩
      rcases List.mem_append.mp hs with hs | hs
      · exact hR.2.2.2.1 s hs
      · rw [List.mem_singleton.mp hs]; exact ⟨hms, by show wh < 2; omega⟩
  · rcases List.mem_or_eq_of_mem_set hr with hr | hr
    · exact h3 r hr
    · rw [hr]
      intro he s hs
      rcases List.mem_append.mp hs with hs | hs
      · exact hN he s hs
      · rw [List.mem_singleton.mp hs]
        rcases hwh with h | h
        · exact h
        · exact absurd he h.2
  · rw [List.length_set] at hj
    rw [rl_set hi]
    show fa 1 j = _ ∧ fa 2 j = _ ∧ fa 3 j = _ ∧ upd (fa 4) i _ j = _ ∧ ∀ k, _ → upd (fa 5) (4 * i + _) (nI ms) (4 * j + k) = _ ∧ upd (fa 6) (4 * i + _) (nI wh) (4 * j + k) = _
    obtain ⟨g1, g2, g3, g4, g5⟩ := h4 j hj
    by_cases he : j = i
    · subst he
      rw [if_pos rfl]
      refine ⟨g1, g2, g3, by simp [upd], fun k hk => ?_⟩
      have hk : k < ((rs.getD j rD).2.2.2 ++ [(ms, wh)]).length := hk
      rw [List.length_append, List.length_singleton] at hk
      show _ = nI (((rs.getD j rD).2.2.2 ++ [(ms, wh)]).getD k (0, 0)).1 ∧ _ = nI (((rs.getD j rD).2.2.2 ++ [(ms, wh)]).getD k (0, 0)).2
      by_cases hz : k = (rs.getD j rD).2.2.2.length
      · rw [hz, sd_eq, upd, if_pos rfl, upd, if_pos rfl]
        exact ⟨rfl, rfl⟩
      · rw [sd_lt (by omega)]
        unfold upd
        rw [if_neg (by omega), if_neg (by omega)]
        exact g5 k (by omega)
    · rw [if_neg he]
      refine ⟨g1, g2, g3, by rw [upd, if_neg he]; exact g4, fun k hk => ?_⟩
      have := (h2 _ (rs_mem hj)).2.2.2.2
      unfold upd
      rw [if_neg (by omega), if_neg (by omega)]
      exact g5 k hk
theorem SymB.up {B : Nat → Bool} {a b : Nat} (h : SymB B) (ha : a < 8) (hb : b < 8) : SymB (upB B (8 * a + b) (8 * b + a)) := by
  intro x y hx hy
  unfold upB
  by_cases c : 8 * x + y = 8 * a + b ∨ 8 * x + y = 8 * b + a
  · rw [if_pos c, if_pos (by omega)]
  · rw [if_neg c, if_neg (by omega)]; exact h x y hx hy
theorem MC.bad {n : Nat} {ps pm : List (List Nat)} {B : Nat → Bool} {fa : Nat → Nat → Int32} {a b : Nat} (h : MC n ps pm B fa) (ha : a < 8) (hb : b < 8) : MC n ps pm (upB B (8 * a + b) (8 * b + a)) (va_up fa 7 (upd (upd (fa 7) (8 * a + b) (nI 1)) (8 * b + a) (nI 1))) := by
  obtain ⟨c1, c2, c3, c4, c5, c6, c7, c8, c9, c10⟩ := h
  exact ⟨c1, c2.up ha hb, bad_f c3 (by omega) (by omega), c4, c5, c6, c7, c8, c9, c10⟩
/-- levels never fall -/
def LMa (E : List Ent) : Prop := ∀ i j, i ≤ j → j < E.length → lvE E i ≤ lvE E j
def glA (E : List Ent) (k : Nat) : Int32 := if k = 0 then -1 else nI (lvE E (k - 1))
theorem gl_up {E : List Ent} {k : Nat} : nI (lvE E k) = glA E (k + 1) := by unfold glA; rw [if_neg (by omega)]; rfl
theorem gl_keep {E : List Ent} {k : Nat} {mo : Int32} (hm : mo = glA E k) (hL : LMa E) (hLI : LIa E) (hk : k < E.length) (hE : E.length ≤ 8192) (h : nI (lvE E k) ≤ mo) : mo = glA E (k + 1) := by
  have l1 := lv_le hLI k hk
  rw [← gl_up]
  unfold glA at hm
  split at hm
  · rw [hm] at h
    exact absurd (Int32.le_trans (nI_pos' (by omega)) h) (by decide)
  · have l2 := lv_le hLI (k - 1) (by omega)
    have l3 := hL (k - 1) k (by omega) hk
    rw [hm] at h ⊢
    by_cases e : lvE E (k - 1) = lvE E k
    · rw [e]
    · exact absurd h (nI_ge (by omega) (by omega))
theorem gl_fin {E : List Ent} {k : Nat} (hk : k = E.length) : glA E k = if E.length = 0 then -1 else nI (lvE E (E.length - 1)) := by
  subst hk; rfl
