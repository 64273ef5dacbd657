-- PURE: what a rule makes of a whole
def isT (nd sd wh t : Nat) : Bool := if wh = 0 then t == sd else !(t == nd)
/-- the codes that one sending adds, for targets below t -/
def addsT (nd sd : Nat) (s : Nat × Nat) (t : Nat) : List Nat := ((List.range t).filter (isT nd sd s.2)).map (fun x => 16 * s.1 + 4 * nd + x)
def addsA (n nd sd : Nat) (sends : List (Nat × Nat)) : List Nat := sends.flatMap (fun s => addsT nd sd s n)
def mkAcc (n nd sd : Nat) (sends : List (Nat × Nat)) (base : List Nat) (k t : Nat) : List Nat := (addsA n nd sd (sends.take k) ++ addsT nd sd (sends.getD k (0, 0)) t).foldl (fun a c => ins c a) base
def bsA (w : Wh) (oc : Option Nat) : List Nat := match oc with
  | none => w.2
  | some c => w.2.erase c
def sdA (oc : Option Nat) : Nat := match oc with
  | none => 99
  | some c => c / 4 % 4
/-- the whole that comes of a step, if not too many are on their way -/
def mkW (n : Nat) (w : Wh) (nd to : Nat) (sends : List (Nat × Nat)) (oc : Option Nat) : Option Wh :=
  if (bsA w oc).length + (addsA n nd (sdA oc) sends).length ≤ 7 then some (w.1.set nd to, (addsA n nd (sdA oc) sends).foldl (fun a c => ins c a) (bsA w oc)) else none
section ACC
variable {n nd sd k t : Nat} {sends : List (Nat × Nat)} {base : List Nat}
theorem acc_0 : mkAcc n nd sd sends base 0 0 = base := by simp [mkAcc, addsA, addsT]
theorem addsT_succ {s : Nat × Nat} : addsT nd sd s (t + 1) = addsT nd sd s t ++ (if isT nd sd s.2 t = true then [16 * s.1 + 4 * nd + t] else []) := by
  unfold addsT
  rw [List.range_succ, List.filter_append, List.map_append]
  congr 1
  cases h : isT nd sd s.2 t <;> simp [List.filter, h]
theorem acc_skip (h : isT nd sd (sends.getD k (0, 0)).2 t = false) : mkAcc n nd sd sends base k (t + 1) = mkAcc n nd sd sends base k t := by
  unfold mkAcc
  rw [addsT_succ, h]
  simp
theorem acc_add (h : isT nd sd (sends.getD k (0, 0)).2 t = true) : mkAcc n nd sd sends base k (t + 1) = ins (16 * (sends.getD k (0, 0)).1 + 4 * nd + t) (mkAcc n nd sd sends base k t) := by
  unfold mkAcc
  rw [addsT_succ, h, ← List.append_assoc, List.foldl_append]
  simp
theorem addsA_take (hk : k < sends.length) : addsA n nd sd (sends.take (k + 1)) = addsA n nd sd (sends.take k) ++ addsT nd sd (sends.getD k (0, 0)) n := by
  unfold addsA
  rw [List.take_succ, List.flatMap_append, List.getElem?_eq_getElem hk, List.getD_eq_getElem?_getD, List.getElem?_eq_getElem hk]
  simp
theorem acc_next (hk : k < sends.length) : mkAcc n nd sd sends base k n = mkAcc n nd sd sends base (k + 1) 0 := by
  unfold mkAcc
  rw [addsA_take hk]
  simp [addsT]
theorem acc_fin (hk : k = sends.length) : mkAcc n nd sd sends base k 0 = (addsA n nd sd sends).foldl (fun a c => ins c a) base := by
  unfold mkAcc
  rw [hk, List.take_length]
  simp [addsT]
theorem acc_len : (mkAcc n nd sd sends base k t).length = (addsA n nd sd (sends.take k)).length + (addsT nd sd (sends.getD k (0, 0)) t).length + base.length := by
  unfold mkAcc
  rw [fold_len, List.length_append]
theorem addsT_mono {s : Nat × Nat} {t t' : Nat} (h : t ≤ t') : (addsT nd sd s t).length ≤ (addsT nd sd s t').length := by
  induction t' with
  | zero =>
    have : t = 0 := by omega
    rw [this]; exact Nat.le_refl _
  | succ m ih =>
    by_cases he : t = m + 1
    · rw [he]; exact Nat.le_refl _
    · have := ih (by omega)
      rw [addsT_succ, List.length_append]
      omega
theorem addsA_mono : ∀ (l : List (Nat × Nat)) (k : Nat), (addsA n nd sd (l.take k)).length ≤ (addsA n nd sd l).length := by
  intro l k
  have h : addsA n nd sd l = addsA n nd sd (l.take k) ++ addsA n nd sd (l.drop k) := by
    unfold addsA
    rw [← List.flatMap_append, List.take_append_drop]
  rw [h, List.length_append]
  omega
theorem acc_fail (hk : k < sends.length) (ht : t < n) (h : isT nd sd (sends.getD k (0, 0)).2 t = true) (h7 : (mkAcc n nd sd sends base k t).length = 7) : ¬ base.length + (addsA n nd sd sends).length ≤ 7 := by
  have h1 := addsA_mono (n := n) (nd := nd) (sd := sd) sends (k + 1)
  rw [addsA_take hk, List.length_append] at h1
  have h2 := addsT_mono (nd := nd) (sd := sd) (s := sends.getD k (0, 0)) (show t + 1 ≤ n by omega)
  rw [addsT_succ, h, List.length_append] at h2
  rw [acc_len] at h7
  rw [if_pos rfl, List.length_singleton] at h2
  omega
theorem acc_srt (h : Srt base) : Srt (mkAcc n nd sd sends base k t) := fold_srt _ _ h
theorem addsT_lt {s : Nat × Nat} {m x : Nat} (hs : s.1 < 6) (hn : nd < 4) (hm : m ≤ 4) (hx : x ∈ addsT nd sd s m) : x < 96 := by
  obtain ⟨y, hy, rfl⟩ := List.mem_map.mp hx
  have := List.mem_range.mp (List.mem_filter.mp hy).1
  omega
theorem adds_in {n nd sd : Nat} {s : Nat × Nat} {x : Nat} (hs : s.1 < 6) (hn : nd < n) (hn4 : n ≤ 4) (hx : x ∈ addsT nd sd s n) : x < 96 ∧ x % 4 < n ∧ x / 4 % 4 < n := by
  obtain ⟨y, hy, rfl⟩ := List.mem_map.mp hx
  have := List.mem_range.mp (List.mem_filter.mp hy).1
  omega
theorem acc_cb (hb : ∀ c ∈ base, c < 96) (hs : ∀ s ∈ sends, s.1 < 6) (hn : nd < 4) (hn4 : n ≤ 4) (ht : t ≤ 4) : ∀ i, (mkAcc n nd sd sends base k t).getD i 0 < 96 := by
  intro i
  have hs0 : (sends.getD k (0, 0)).1 < 6 := by
    by_cases hk : k < sends.length
    · rw [List.getD_eq_getElem?_getD, List.getElem?_eq_getElem hk]; exact hs _ (List.getElem_mem hk)
    · rw [List.getD_eq_getElem?_getD, List.getElem?_eq_none (by omega)]; decide
  by_cases hi : i < (mkAcc n nd sd sends base k t).length
  · rw [List.getD_eq_getElem?_getD, List.getElem?_eq_getElem hi, Option.getD_some]
    have hm := List.getElem_mem hi
    generalize (mkAcc n nd sd sends base k t)[i] = x at hm
    unfold mkAcc at hm
    rcases (fold_mem _ _).mp hm with h | h
    · rcases List.mem_append.mp h with h | h
      · obtain ⟨s, h1, h2⟩ := List.mem_flatMap.mp h
        exact addsT_lt (hs s (List.mem_of_mem_take h1)) hn hn4 h2
      · exact addsT_lt hs0 hn ht h
    · exact hb _ h
  · rw [List.getD_eq_getElem?_getD, List.getElem?_eq_none (by omega)]; decide
end ACC
theorem sends_lt {sends : List (Nat × Nat)} {k : Nat} (hs : ∀ s ∈ sends, s.1 < 6 ∧ s.2 < 2) (hk : k < sends.length) : (sends.getD k (0, 0)).1 < 6 ∧ (sends.getD k (0, 0)).2 < 2 := by
  rw [List.getD_eq_getElem?_getD, List.getElem?_eq_getElem hk]; exact hs _ (List.getElem_mem hk)
theorem or_code : ∀ k, k < 6 → ∀ a, a < 4 → ∀ b, b < 4 → (k * 2 ^ 4 ||| a * 2 ^ 2) ||| b = 16 * k + 4 * a + b := by decide +kernel
/-- the first of its kind is dropped -/
theorem erase_idx {l : List Nat} {i : Nat} (hi : i < l.length) (hf : ∀ j, j < i → l.getD j 0 ≠ l.getD i 0) : l.erase (l.getD i 0) = l.eraseIdx i := by
  have hidx : l.idxOf (l.getD i 0) = i := by
    induction l generalizing i with
    | nil => simp at hi
    | cons a l ih =>
      cases i with
      | zero => simp
      | succ i =>
        have h0 := hf 0 (by omega)
        simp only [List.getD_cons_zero, List.getD_cons_succ] at h0
        have h1 : (a == l.getD i 0) = false := by simpa using h0
        rw [List.getD_cons_succ, List.idxOf_cons, h1, ih (by simpa using hi) (fun j hj => by simpa using hf (j + 1) (by omega))]
        rfl
  exact List.erase_eq_eraseIdx_of_idxOf hidx
theorem set_dg {w : Wh} {nd to i : Nat} {cs : List Nat} (hl : w.1.length = 4) (hi : i < 4) : dg (w.1.set nd to, cs) i = if i = nd then to else dg w i := by
  rw [dg_st _ hi, dg_st _ hi]
  show (w.1.set nd to).getD i 0 = _
  rw [List.getD_eq_getElem?_getD, List.getD_eq_getElem?_getD]
  by_cases he : i = nd
  · subst he
    rw [List.getElem?_set_self (by omega), if_pos rfl]; rfl
  · rw [List.getElem?_set_ne (Ne.symm he), if_neg he]
theorem mk_ok {n nd to : Nat} {w w1 : Wh} {sends : List (Nat × Nat)} {oc : Option Nat} (hV : Vl n w) (hn4 : n ≤ 4) (hnd : nd < n) (hto : to < 8) (hs : ∀ s ∈ sends, s.1 < 6 ∧ s.2 < 2) (h : mkW n w nd to sends oc = some w1) : Vl n w1 := by
  unfold mkW at h
  split at h
  · rename_i h7
    cases h
    have hbs : ∀ c ∈ bsA w oc, c ∈ w.2 := by
      intro c hc
      cases oc with
      | none => exact hc
      | some d => exact List.mem_of_mem_erase hc
    have hbsrt : Srt (bsA w oc) := by
      cases oc with
      | none => exact hV.2.2.2.2.2
      | some d => exact List.Pairwise.sublist List.erase_sublist hV.2.2.2.2.2
    refine ⟨by rw [List.length_set]; exact hV.1, fun i => ?_, fun i hi => ?_, ?_, fun c hc => ?_, fold_srt _ _ hbsrt⟩
    · show (w.1.set nd to).getD i 0 < 8
      rw [List.getD_eq_getElem?_getD, List.getElem?_set]
      split
      · split <;> simp [hto]
      · rw [← List.getD_eq_getElem?_getD]; exact hV.2.1 i
    · show (w.1.set nd to).getD i 0 = 0
      rw [List.getD_eq_getElem?_getD, List.getElem?_set_ne (by omega), ← List.getD_eq_getElem?_getD]; exact hV.2.2.1 i hi
    · show List.length (List.foldl (fun a c => ins c a) _ _) ≤ 7
      rw [fold_len]; omega
    · rcases (fold_mem _ _).mp hc with h | h
      · obtain ⟨s, h1, h2⟩ := List.mem_flatMap.mp h
        exact adds_in (hs s h1).1 hnd hn4 h2
      · exact hV.2.2.2.2.1 c (hbs c h)
  · cases h
