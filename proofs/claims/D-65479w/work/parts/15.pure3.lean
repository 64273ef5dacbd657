-- PURE: the least form and how many numberings make it
def fstep (w : Wh) (acc : Option (Wh × Nat)) (π : List Nat) : Option (Wh × Nat) :=
  match acc with
  | none => some (trn π w, 1)
  | some (b, c) => if pk (trn π w) < pk b then some (trn π w, 1) else if pk (trn π w) = pk b then some (b, c + 1) else some (b, c)
def frmS (ps : List (List Nat)) (w : Wh) (k : Nat) : Option (Wh × Nat) := (ps.take k).foldl (fstep w) none
def frm (ps : List (List Nat)) (w : Wh) : Wh × Nat := ((ps.foldl (fstep w) none).getD (([], []), 0))
theorem frmS_succ {ps : List (List Nat)} {w : Wh} {k : Nat} (hk : k < ps.length) : frmS ps w (k + 1) = fstep w (frmS ps w k) (ps.getD k []) := by
  unfold frmS
  rw [List.take_succ, List.getElem?_eq_getElem hk, List.getD_eq_getElem?_getD, List.getElem?_eq_getElem hk]
  simp only [Option.toList_some, List.foldl_append, List.foldl_cons, List.foldl_nil, Option.getD_some]
/-- what a loop over the numberings holds -/
def FI (ps : List (List Nat)) (w : Wh) (k : Nat) (b : Wh) (sc : Nat) : Prop := (k = 0 ∧ sc = 0) ∨ (0 < sc ∧ frmS ps w k = some (b, sc))
theorem FI.init {ps : List (List Nat)} {w b : Wh} : FI ps w 0 b 0 := Or.inl ⟨rfl, rfl⟩
theorem FI.first {ps : List (List Nat)} {w b : Wh} {k : Nat} (h : FI ps w k b 0) (hk : k < ps.length) : FI ps w (k + 1) (trn (ps.getD k []) w) 1 := by
  rcases h with ⟨rfl, -⟩ | ⟨h, -⟩
  · refine Or.inr ⟨by decide, ?_⟩
    rw [frmS_succ hk]; rfl
  · omega
theorem FI.less {ps : List (List Nat)} {w b : Wh} {k sc : Nat} (h : FI ps w k b sc) (hs : sc ≠ 0) (hk : k < ps.length) (hv : pk (trn (ps.getD k []) w) < pk b) : FI ps w (k + 1) (trn (ps.getD k []) w) 1 := by
  rcases h with ⟨-, h⟩ | ⟨-, h⟩
  · exact absurd h hs
  · refine Or.inr ⟨by decide, ?_⟩
    rw [frmS_succ hk, h]
    show (if _ then _ else _) = _
    rw [if_pos hv]
theorem FI.same {ps : List (List Nat)} {w b : Wh} {k sc : Nat} (h : FI ps w k b sc) (hs : sc ≠ 0) (hk : k < ps.length) (hv : pk (trn (ps.getD k []) w) = pk b) : FI ps w (k + 1) b (sc + 1) := by
  rcases h with ⟨-, h⟩ | ⟨-, h⟩
  · exact absurd h hs
  · refine Or.inr ⟨by omega, ?_⟩
    rw [frmS_succ hk, h]
    show (if _ then _ else _) = _
    rw [if_neg (by omega), if_pos hv]
theorem FI.more {ps : List (List Nat)} {w b : Wh} {k sc : Nat} (h : FI ps w k b sc) (hs : sc ≠ 0) (hk : k < ps.length) (hv : pk b < pk (trn (ps.getD k []) w)) : FI ps w (k + 1) b sc := by
  rcases h with ⟨-, h⟩ | ⟨-, h⟩
  · exact absurd h hs
  · refine Or.inr ⟨by omega, ?_⟩
    rw [frmS_succ hk, h]
    show (if _ then _ else _) = _
    rw [if_neg (by omega), if_neg (by omega)]
theorem FI.fin {ps : List (List Nat)} {w b : Wh} {k sc : Nat} (h : FI ps w k b sc) (h0 : 0 < ps.length) (hk : k = ps.length) : frm ps w = (b, sc) := by
  rcases h with ⟨h, -⟩ | ⟨-, h⟩
  · omega
  · unfold frmS at h
    rw [hk, List.take_length] at h
    unfold frm
    rw [h]; rfl
theorem FI.len {ps : List (List Nat)} {w b : Wh} {k sc : Nat} (h : FI ps w k b sc) : sc ≤ k := by
  have key : ∀ (l : List (List Nat)) (a : Option (Wh × Nat)) (m : Nat), (∀ b c, a = some (b, c) → c ≤ m) → ∀ b c, l.foldl (fstep w) a = some (b, c) → c ≤ m + l.length := by
    intro l
    induction l with
    | nil => intro a m ha b c h; simpa using ha b c h
    | cons π l ih =>
      intro a m ha b c h
      rw [List.foldl_cons] at h
      have := ih (fstep w a π) (m + 1) (fun b' c' h' => ?_) b c h
      · simp only [List.length_cons]; omega
      · cases a with
        | none =>
          have h' : some (trn π w, 1) = some (b', c') := h'
          simp at h'
          omega
        | some z =>
          obtain ⟨b0, c0⟩ := z
          have h0 := ha b0 c0 rfl
          have h' : (if pk (trn π w) < pk b0 then some (trn π w, 1) else if pk (trn π w) = pk b0 then some (b0, c0 + 1) else some (b0, c0)) = some (b', c') := h'
          split at h'
          · simp at h'; omega
          · split at h'
            · simp at h'; omega
            · simp at h'; omega
  rcases h with ⟨-, h⟩ | ⟨-, h⟩
  · omega
  · have := key (ps.take k) none 0 (fun _ _ z => by cases z) b sc h
    rw [List.length_take] at this
    omega
/-- the one that is kept is one of them -/
theorem frm_in {ps : List (List Nat)} {w : Wh} (h0 : 0 < ps.length) : ∃ π ∈ ps, (frm ps w).1 = trn π w := by
  have key : ∀ (l : List (List Nat)) (a : Option (Wh × Nat)), (l ≠ [] ∨ ∃ z, a = some z) → ∃ b c, l.foldl (fstep w) a = some (b, c) ∧ ((∃ π ∈ l, b = trn π w) ∨ ∃ c', a = some (b, c')) := by
    intro l
    induction l with
    | nil =>
      intro a h
      rcases h with h | ⟨⟨b, c⟩, rfl⟩
      · exact absurd rfl h
      · exact ⟨b, c, rfl, Or.inr ⟨c, rfl⟩⟩
    | cons π l ih =>
      intro a h
      rw [List.foldl_cons]
      obtain ⟨b, c, h1, h2⟩ := ih (fstep w a π) (Or.inr (by
        cases a with
        | none => exact ⟨_, rfl⟩
        | some z =>
          obtain ⟨b0, c0⟩ := z
          simp only [fstep]
          split
          · exact ⟨_, rfl⟩
          · split <;> exact ⟨_, rfl⟩))
      refine ⟨b, c, h1, ?_⟩
      rcases h2 with ⟨π', h3, h4⟩ | ⟨c', h3⟩
      · exact Or.inl ⟨π', List.mem_cons_of_mem _ h3, h4⟩
      · cases a with
        | none =>
          have h3 : some (trn π w, 1) = some (b, c') := h3
          simp at h3
          exact Or.inl ⟨π, List.mem_cons_self, h3.1.symm⟩
        | some z =>
          obtain ⟨b0, c0⟩ := z
          have h3 : (if pk (trn π w) < pk b0 then some (trn π w, 1) else if pk (trn π w) = pk b0 then some (b0, c0 + 1) else some (b0, c0)) = some (b, c') := h3
          split at h3
          · simp at h3; exact Or.inl ⟨π, List.mem_cons_self, h3.1.symm⟩
          · split at h3
            · simp at h3; exact Or.inr ⟨c0, by rw [h3.1]⟩
            · simp at h3; exact Or.inr ⟨c0, by rw [h3.1]⟩
  obtain ⟨b, c, h1, h2⟩ := key ps none (Or.inl (by intro h; rw [h] at h0; simp at h0))
  unfold frm
  rw [h1]
  rcases h2 with h2 | ⟨c', h2⟩
  · exact h2
  · cases h2
theorem frm_ok {ps : List (List Nat)} {w : Wh} {n : Nat} (h0 : 0 < ps.length) (hp : ∀ π ∈ ps, Pm n π) (hw : Vl n w) (hn : n ≤ 4) : Vl n (frm ps w).1 := by
  obtain ⟨π, h1, h2⟩ := frm_in (w := w) h0
  rw [h2]; exact trn_ok (hp π h1) hw hn
theorem cmpU {a b : Nat} (ha : a < 18446744073709551616) (hb : b < 18446744073709551616) : (lN a + (-9223372036854775808) < lN b + (-9223372036854775808) ↔ a < b) ∧ (lN a + (-9223372036854775808) = lN b + (-9223372036854775808) ↔ a = b) := by
  have hm : (-9223372036854775808 : Int64) = lN 9223372036854775808 := by decide +kernel
  have key : ∀ x : Nat, x < 18446744073709551616 → (lN x + (-9223372036854775808)).toInt = (x : Int) - 9223372036854775808 := by
    intro x hx
    rw [hm, lN_add, wb_mod]
    show (BitVec.ofNat 64 _).toInt = _
    rw [BitVec.toInt_eq_toNat_cond, BitVec.toNat_ofNat]
    split <;> omega
  constructor
  · rw [Int64.lt_iff_toInt_lt, key a ha, key b hb]; omega
  · rw [← Int64.toInt_inj, key a ha, key b hb]; omega
