-- PURE: what is explored: entries (form, from, by, level, alike); coming to a whole
abbrev Ent : Type := Wh × Int32 × Int32 × Nat × Nat
def eD : Ent := (([], []), 0, 0, 0, 0)
def BadW (n : Nat) (B : Nat → Bool) (w : Wh) : Prop := ∃ a b, a < b ∧ b < n ∧ B (8 * dg w a + dg w b) = true
def badB (n : Nat) (B : Nat → Bool) (w : Wh) : Bool := (List.range n).any fun b => (List.range b).any fun a => B (8 * dg w a + dg w b)
def lvA (E : List Ent) (fr : Int32) : Nat := if fr = -1 then 0 else (E.getD fr.toNatClampNeg eD).2.2.2.1 + 1
/-- entries, how often one came again, over (0: no, 1: a bad one, 2: full) -/
def comeA (ps : List (List Nat)) (B : Nat → Bool) (n room : Nat) (E : List Ent) (ag : Nat) (w : Wh) (fr ru : Int32) : List Ent × Nat × Nat :=
  if (frm ps w).1 ∈ E.map (fun e => e.1) then (E, ag + 1, 0) else if E.length = room then (E, ag, 2)
  else (E ++ [((frm ps w).1, fr, ru, lvA E fr, (frm ps w).2)], ag, if badB n B w = true then 1 else 0)
/-- what holds of all entries -/
def EOK (n room : Nat) (E : List Ent) : Prop := (∀ e ∈ E, Vl n e.1) ∧ (E.map (fun e => e.1)).Nodup ∧ E.length ≤ room ∧ room ≤ 8192
/-- the entries as the program's arrays have them -/
def XE (E : List Ent) (fm : Nat → Int64) (f2 f3 f4 f6 : Nat → Int32) : Prop := ∀ k, k < E.length → fm k = lN (pk (E.getD k eD).1) ∧ f2 k = (E.getD k eD).2.1 ∧ f3 k = (E.getD k eD).2.2.1 ∧ f4 k = nI (E.getD k eD).2.2.2.1 ∧ f6 k = nI (E.getD k eD).2.2.2.2
def boF (ov m : Nat) : Int32 := if ov = 1 then nI (m - 1) else -1
def fuF (ov : Nat) : Int32 := if ov = 2 then nI 1 else nI 0
/-- how often the arrays have been doubled -/
def lgM (m : Nat) : Nat := if m ≤ 64 then 0 else if m ≤ 128 then 1 else if m ≤ 256 then 2 else if m ≤ 512 then 3 else if m ≤ 1024 then 4 else if m ≤ 2048 then 5 else if m ≤ 4096 then 6 else 7
def jx (j m : Nat) : Nat := if j ≤ lgM m then lgM m else j
theorem p2s : 2 ^ 0 = 1 ∧ 2 ^ 1 = 2 ∧ 2 ^ 2 = 4 ∧ 2 ^ 3 = 8 ∧ 2 ^ 4 = 16 ∧ 2 ^ 5 = 32 ∧ 2 ^ 6 = 64 ∧ 2 ^ 7 = 128 := by decide
theorem lg_le {m j : Nat} (h : m ≤ 64 * 2 ^ j) (hj : j ≤ 7) : lgM m ≤ j := by
  unfold lgM
  have p := p2s
  match j, hj with
  | 0, _ => repeat (first | omega | split)
  | 1, _ => repeat (first | omega | split)
  | 2, _ => repeat (first | omega | split)
  | 3, _ => repeat (first | omega | split)
  | 4, _ => repeat (first | omega | split)
  | 5, _ => repeat (first | omega | split)
  | 6, _ => repeat (first | omega | split)
  | 7, _ => repeat (first | omega | split)
theorem lg_7 (m : Nat) : lgM m ≤ 7 := by unfold lgM; repeat (first | omega | split)
theorem lg_ge {m : Nat} (h : m ≤ 8192) : m ≤ 64 * 2 ^ lgM m := by
  unfold lgM
  have p := p2s
  repeat (first | omega | split)
theorem lg_mono {m m' : Nat} (h : m ≤ m') : lgM m ≤ lgM m' := by
  unfold lgM
  repeat (first | omega | split)
theorem lg_next {j : Nat} (hj : j < 7) : lgM (64 * 2 ^ j + 1) = j + 1 := by
  match j, hj with
  | 0, _ => decide
  | 1, _ => decide
  | 2, _ => decide
  | 3, _ => decide
  | 4, _ => decide
  | 5, _ => decide
  | 6, _ => decide
theorem jx_le (j m : Nat) : j ≤ jx j m := by unfold jx; split <;> omega
theorem jx_7 {j m : Nat} (h : j ≤ 7) : jx j m ≤ 7 := by unfold jx; have := lg_7 m; split <;> omega
theorem jx_in {j m : Nat} (h : m ≤ 64 * 2 ^ j) (hj : j ≤ 7) : jx j m = j := by
  unfold jx
  have := lg_le h hj
  split <;> omega
theorem jx_fit {j m : Nat} (hm : m ≤ 8192) : m ≤ 64 * 2 ^ jx j m := by
  unfold jx
  have h1 := lg_ge hm
  split
  · exact h1
  · have : 2 ^ lgM m ≤ 2 ^ j := Nat.pow_le_pow_right (by decide) (by omega)
    omega
theorem jx_jx {j m m' : Nat} (h : m ≤ m') : jx (jx j m) m' = jx j m' := by
  unfold jx
  have := lg_mono h
  split <;> split <;> omega
theorem jx_mono {j m m' : Nat} (h : m ≤ m') : jx j m ≤ jx j m' := by
  unfold jx
  have := lg_mono h
  split <;> split <;> omega
theorem jx_next {j : Nat} (hj : j < 7) : jx j (64 * 2 ^ j + 1) = j + 1 := by
  unfold jx
  rw [lg_next hj, if_pos (by omega)]
theorem pow_mono {a b : Nat} (h : a ≤ b) : 2 ^ a ≤ 2 ^ b := Nat.pow_le_pow_right (by decide) h
theorem getD_snoc_lt {E : List Ent} {e : Ent} {k : Nat} (h : k < E.length) : (E ++ [e]).getD k eD = E.getD k eD := by
  simp only [List.getD_eq_getElem?_getD, List.getElem?_append_left h]
theorem getD_snoc_eq {E : List Ent} {e : Ent} : (E ++ [e]).getD E.length eD = e := by
  simp [List.getD_eq_getElem?_getD]
theorem XE.snoc {E : List Ent} {fm : Nat → Int64} {f2 f3 f4 f6 : Nat → Int32} (h : XE E fm f2 f3 f4 f6) (b : Wh) (fr ru : Int32) (lv sc : Nat) : XE (E ++ [(b, fr, ru, lv, sc)]) (vp_updL fm E.length (lN (pk b))) (upd f2 E.length fr) (upd f3 E.length ru) (upd f4 E.length (nI lv)) (upd f6 E.length (nI sc)) := by
  intro k hk
  rw [List.length_append, List.length_singleton] at hk
  by_cases he : k = E.length
  · subst he
    rw [getD_snoc_eq]
    simp [upd, vp_updL]
  · have h1 := h k (by omega)
    rw [getD_snoc_lt (by omega)]
    simp only [upd, vp_updL, if_neg he]
    exact h1
theorem XE.copy {E : List Ent} {fm : Nat → Int64} {f2 f3 f4 f6 : Nat → Int32} (h : XE E fm f2 f3 f4 f6) (mn : Nat) (hm : mn = E.length) : XE E (va_cpy fm (fun _ => 0) 0 0 mn) (va_cpy f2 (fun _ => 0) 0 0 mn) (va_cpy f3 (fun _ => 0) 0 0 mn) (va_cpy f4 (fun _ => 0) 0 0 mn) (va_cpy f6 (fun _ => 0) 0 0 mn) := by
  intro k hk
  have h1 := h k hk
  rw [pk_cpy_in (Nat.zero_le _) (by omega), pk_cpy_in (Nat.zero_le _) (by omega), pk_cpy_in (Nat.zero_le _) (by omega), pk_cpy_in (Nat.zero_le _) (by omega), pk_cpy_in (Nat.zero_le _) (by omega)]
  simpa using h1
theorem getD_memE {E : List Ent} {k : Nat} (h : k < E.length) : E.getD k eD ∈ E := by
  rw [List.getD_eq_getElem?_getD, List.getElem?_eq_getElem h]; exact List.getElem_mem h
theorem lN_inj {a b : Nat} (ha : a < 18446744073709551616) (hb : b < 18446744073709551616) (h : lN a = lN b) : a = b := by
  have h1 := congrArg (fun x : Int64 => x.toBitVec.toNat) h
  simpa [wb_tn (show a < 2 ^ 64 from ha), wb_tn (show b < 2 ^ 64 from hb)] using h1
/-- the table's answer is the entries' -/
theorem find_in {n room mn : Nat} {E : List Ent} {fm : Nat → Int64} {f2 f3 f4 f6 : Nat → Int32} (hX : XE E fm f2 f3 f4 f6) (hE : EOK n room E) {b : Wh} (hb : Vl n b) (hm : mn = E.length) : (∃ j, j < mn ∧ fm j = lN (pk b)) ↔ b ∈ E.map (fun e => e.1) := by
  subst hm
  constructor
  · rintro ⟨j, hj, h⟩
    have hv := hE.1 _ (getD_memE hj)
    rw [(hX j hj).1] at h
    have := pk_inj hv hb (lN_inj (pk_lt64 hv) (pk_lt64 hb) h)
    exact List.mem_map.mpr ⟨_, getD_memE hj, this⟩
  · intro h
    obtain ⟨e, he, rfl⟩ := List.mem_map.mp h
    obtain ⟨k, hk⟩ := List.getElem?_of_mem he
    have hl := (List.getElem?_eq_some_iff.mp hk).1
    refine ⟨k, hl, ?_⟩
    rw [(hX k hl).1, List.getD_eq_getElem?_getD, hk]; rfl
theorem fm_ne {n room : Nat} {E : List Ent} {fm : Nat → Int64} {f2 f3 f4 f6 : Nat → Int32} (hX : XE E fm f2 f3 f4 f6) (hE : EOK n room E) : ∀ i j, i < E.length → j < i → fm j ≠ fm i := by
  intro i j hi hj h
  rw [(hX i hi).1, (hX j (by omega)).1] at h
  have vi := hE.1 _ (getD_memE hi)
  have vj := hE.1 _ (getD_memE (show j < E.length by omega))
  have he := pk_inj vj vi (lN_inj (pk_lt64 vj) (pk_lt64 vi) h)
  have hn := List.pairwise_iff_getElem.mp hE.2.1 j i (by simpa using (show j < E.length by omega)) (by simpa using hi) hj
  apply hn
  simp only [List.getElem_map]
  rw [List.getD_eq_getElem?_getD, List.getElem?_eq_getElem (show j < E.length by omega), List.getD_eq_getElem?_getD, List.getElem?_eq_getElem hi] at he
  exact he
theorem badB_iff {n : Nat} {B : Nat → Bool} {w : Wh} : badB n B w = true ↔ BadW n B w := by
  unfold badB BadW
  simp only [List.any_eq_true, List.mem_range]
  constructor
  · rintro ⟨b, hb, a, ha, h⟩
    exact ⟨a, b, ha, hb, h⟩
  · rintro ⟨a, b, ha, hb, h⟩
    exact ⟨b, hb, a, ha, h⟩
