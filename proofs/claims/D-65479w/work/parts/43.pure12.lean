-- PURE: the reference's way to make a whole
theorem filt_one {n s : Nat} (h : s < n) : ((List.range n).filter (fun t => t == s)) = [s] := by
  induction n with
  | zero => omega
  | succ m ih =>
    rw [List.range_succ, List.filter_append]
    by_cases he : s = m
    · subst he
      rw [List.filter_eq_nil_iff.mpr (fun a ha => by have := List.mem_range.mp ha; simp; omega)]
      simp [List.filter]
    · rw [ih (by omega)]
      have : (m == s) = false := by simp; omega
      simp [List.filter, this]
theorem addsT_0 {nd sd n : Nat} {s : Nat × Nat} (h : s.2 = 0) (hs : sd < n) : addsT nd sd s n = [16 * s.1 + 4 * nd + sd] := by
  unfold addsT
  have : isT nd sd s.2 = fun t => t == sd := by funext t; unfold isT; rw [if_pos h]
  rw [this, filt_one hs]; rfl
theorem filt_ne (nd : Nat) : ∀ n, ((List.range n).filter (fun t => !(t == nd))).length + (if nd < n then 1 else 0) = n
  | 0 => rfl
  | m + 1 => by
    have ih := filt_ne nd m
    rw [List.range_succ, List.filter_append, List.length_append]
    by_cases he : m = nd
    · subst he
      rw [if_neg (by omega)] at ih
      rw [if_pos (by omega)]
      simp [List.filter] at ih ⊢
      omega
    · have e : (m == nd) = false := by simpa using he
      have : (if nd < m + 1 then 1 else 0) = (if nd < m then 1 else 0) := by
        by_cases hc : nd < m
        · rw [if_pos hc, if_pos (by omega)]
        · rw [if_neg hc, if_neg (by omega)]
      rw [this]
      simp only [List.filter, e, Bool.not_false, List.length_singleton]
      omega
theorem addsT_1 {nd sd n : Nat} {s : Nat × Nat} (h : s.2 ≠ 0) (hn : nd < n) : (addsT nd sd s n).length = n - 1 := by
  unfold addsT
  have e : isT nd sd s.2 = fun t => !(t == nd) := by funext t; unfold isT; rw [if_neg h]
  rw [e, List.length_map]
  have := filt_ne nd n
  rw [if_pos hn] at this
  omega
theorem more_0 {n nd sd : Nat} {sends : List (Nat × Nat)} : (addsA n nd sd (sends.take 0)).length = 0 := by simp [addsA]
theorem more_s {n nd sd k : Nat} {sends : List (Nat × Nat)} (hk : k < sends.length) : (addsA n nd sd (sends.take (k + 1))).length = (addsA n nd sd (sends.take k)).length + (addsT nd sd (sends.getD k (0, 0)) n).length := by
  rw [addsA_take hk, List.length_append]
theorem acc_le {n nd sd k t : Nat} {sends : List (Nat × Nat)} {base : List Nat} (hk : k < sends.length) (ht : t ≤ n) : (mkAcc n nd sd sends base k t).length ≤ base.length + (addsA n nd sd sends).length := by
  rw [acc_len]
  have h1 := addsT_mono (nd := nd) (sd := sd) (s := sends.getD k (0, 0)) ht
  have h2 := addsA_mono (n := n) (nd := nd) (sd := sd) sends (k + 1)
  rw [more_s hk] at h2
  omega
theorem acc_one {n nd sd k : Nat} {sends : List (Nat × Nat)} {base : List Nat} (h : (sends.getD k (0, 0)).2 = 0) (hs : sd < n) : mkAcc n nd sd sends base k n = ins (16 * (sends.getD k (0, 0)).1 + 4 * nd + sd) (mkAcc n nd sd sends base k 0) := by
  unfold mkAcc
  rw [addsT_0 h hs]
  simp [addsT]
theorem ins_last {c : Nat} : ∀ {l : List Nat}, (∀ x ∈ l, x ≤ c) → ins c l = l ++ [c]
  | [], _ => rfl
  | a :: l, h => by
    have h1 := h a (List.mem_cons_self ..)
    unfold ins
    rw [ins_last (fun x hx => h x (List.mem_cons_of_mem _ hx))]
    first
    | rw [if_pos h1]; rfl
    | rw [if_neg (by omega)]; rfl
/-- what is taken over of the first codes -/
def bsT (l : List Nat) (oc : Option Nat) : List Nat := match oc with
  | none => l
  | some c => l.erase c
def TK (w : Wh) (oc : Option Nat) (k tk : Nat) : Prop := match oc with
  | none => tk = 1
  | some c => (tk = 0 ∧ c ∉ w.2.take k) ∨ (tk = 1 ∧ c ∈ w.2.take k)
theorem take_snoc {l : List Nat} {k : Nat} (hk : k < l.length) : l.take (k + 1) = l.take k ++ [l.getD k 0] := by
  rw [List.take_succ, List.getElem?_eq_getElem hk, List.getD_eq_getElem?_getD, List.getElem?_eq_getElem hk]; rfl
theorem take_le {l : List Nat} {k : Nat} (hs : Srt l) (hk : k < l.length) : ∀ x ∈ l.take k, x ≤ l.getD k 0 := by
  have h : Srt (l.take (k + 1)) := List.Pairwise.sublist (List.take_sublist _ _) hs
  rw [take_snoc hk] at h
  intro x hx
  exact (List.pairwise_append.mp h).2.2 x hx _ (by simp)
def ciI (oc : Option Nat) : Int32 := match oc with
  | none => -1
  | some c => nI c
theorem getD_mem' {l : List Nat} {k : Nat} (hk : k < l.length) : l.getD k 0 ∈ l := by
  rw [List.getD_eq_getElem?_getD, List.getElem?_eq_getElem hk]; exact List.getElem_mem hk
theorem TK.hit {w : Wh} {oc : Option Nat} {k tk : Nat} {ci : Int32} (h : TK w oc k tk) (h0 : tk = 0) (hk : k < w.2.length) (hci : ci = ciI oc) (he : nI (w.2.getD k 0) = ci) (hb : ∀ c ∈ w.2, c < 96) (hoc : ∀ c, oc = some c → c ∈ w.2) : bsT (w.2.take (k + 1)) oc = bsT (w.2.take k) oc ∧ TK w oc (k + 1) 1 := by
  subst h0
  cases oc with
  | none => cases h
  | some c =>
    rw [hci] at he
    have hc := hb c (hoc c rfl)
    have hx := hb _ (getD_mem' hk)
    have he : w.2.getD k 0 = c := (nI_eq (by omega) (by omega)).mp he
    rcases h with ⟨-, h⟩ | h
    · refine ⟨?_, Or.inr ⟨rfl, ?_⟩⟩
      · show (w.2.take (k + 1)).erase c = (w.2.take k).erase c
        rw [take_snoc hk, he, List.erase_append_right _ h, List.erase_of_not_mem h]
        simp
      · rw [take_snoc hk, he]; simp
    · exact absurd h.1 (by decide)
theorem TK.keep {w : Wh} {oc : Option Nat} {k tk : Nat} {ci : Int32} (h : TK w oc k tk) (hk : k < w.2.length) (hs : Srt w.2) (hci : ci = ciI oc) (he : tk ≠ 0 ∨ ¬ nI (w.2.getD k 0) = ci) : bsT (w.2.take (k + 1)) oc = ins (w.2.getD k 0) (bsT (w.2.take k) oc) ∧ TK w oc (k + 1) tk := by
  have hle := take_le hs hk
  cases oc with
  | none =>
    refine ⟨?_, h⟩
    show w.2.take (k + 1) = ins _ (w.2.take k)
    rw [take_snoc hk, ins_last hle]
  | some c =>
    rw [hci] at he
    have e : ins (w.2.getD k 0) ((w.2.take k).erase c) = (w.2.take k).erase c ++ [w.2.getD k 0] := ins_last (fun x hx => hle x (List.mem_of_mem_erase hx))
    rcases h with ⟨h0, h⟩ | ⟨h0, h⟩
    · have hne : w.2.getD k 0 ≠ c := fun z => by
        rcases he with he | he
        · exact he h0
        · exact he (by rw [z]; rfl)
      refine ⟨?_, Or.inl ⟨h0, ?_⟩⟩
      · show (w.2.take (k + 1)).erase c = ins _ ((w.2.take k).erase c)
        rw [e, take_snoc hk, List.erase_append_right _ h, List.erase_of_not_mem h]
        congr 1
        rw [List.erase_of_not_mem (by simpa using fun z => hne z.symm)]
      · rw [take_snoc hk]
        simp only [List.mem_append, List.mem_singleton]
        exact fun z => z.elim h (fun q => hne q.symm)
    · refine ⟨?_, Or.inr ⟨h0, ?_⟩⟩
      · show (w.2.take (k + 1)).erase c = ins _ ((w.2.take k).erase c)
        rw [e, take_snoc hk, List.erase_append_left _ h]
      · rw [take_snoc hk]; exact List.mem_append_left _ h
theorem bsT_all {w : Wh} {oc : Option Nat} {k : Nat} (hk : w.2.length ≤ k) : bsT (w.2.take k) oc = bsA w oc := by
  rw [List.take_of_length_le hk]; cases oc <;> rfl
theorem bsT_srt {w : Wh} {oc : Option Nat} {k : Nat} (hs : Srt w.2) : Srt (bsT (w.2.take k) oc) := by
  have h : Srt (w.2.take k) := List.Pairwise.sublist (List.take_sublist _ _) hs
  cases oc with
  | none => exact h
  | some c => exact List.Pairwise.sublist List.erase_sublist h
theorem bsT_len {w : Wh} {oc : Option Nat} {k : Nat} : (bsT (w.2.take k) oc).length ≤ k := by
  have h : (w.2.take k).length ≤ k := by rw [List.length_take]; omega
  cases oc with
  | none => exact h
  | some c => exact Nat.le_trans (List.Sublist.length_le List.erase_sublist) h
theorem bsT_cb {w : Wh} {oc : Option Nat} {k : Nat} (hb : ∀ c ∈ w.2, c < 96) : ∀ i, (bsT (w.2.take k) oc).getD i 0 < 96 := by
  have h : ∀ c ∈ bsT (w.2.take k) oc, c < 96 := by
    intro c hc
    cases oc with
    | none => exact hb c (List.mem_of_mem_take hc)
    | some d => exact hb c (List.mem_of_mem_take (List.mem_of_mem_erase hc))
  intro i
  rw [List.getD_eq_getElem?_getD]
  by_cases hi : i < (bsT (w.2.take k) oc).length
  · rw [List.getElem?_eq_getElem hi]; exact h _ (List.getElem_mem hi)
  · rw [List.getElem?_eq_none (by omega)]; decide
theorem bs_len {w : Wh} {oc : Option Nat} (hoc : ∀ c, oc = some c → c ∈ w.2) : (bsA w oc).length = w.2.length - (match oc with | none => 0 | some _ => 1) := by
  cases oc with
  | none => rfl
  | some c => exact List.length_erase_of_mem (hoc c rfl)
/-- a whole in parts: its states, and codes on their way -/
def RowP (f : Nat → Int32) (st : List Nat) (cs : List Nat) : Prop := (∀ i, i < 4 → f i = nI (st.getD i 0)) ∧ f 4 = nI cs.length ∧ Cds f 5 cs
theorem RowP.row {f : Nat → Int32} {w : Wh} (h : RowP f w.1 w.2) : Row f 0 w :=
  Row.mk (fun i hi => by rw [Nat.zero_add, h.1 i hi, dg_st _ hi]) (by rw [Nat.zero_add]; exact h.2.1) (fun i hi => by rw [Nat.zero_add]; exact h.2.2 i hi)
theorem RowP.add {f g : Nat → Int32} {st cs : List Nat} {c : Nat} (h : RowP f st cs) (hp : (∀ i, i < 4 → g i = f i) ∧ g 4 = nI (cs.length + 1) ∧ Cds g 5 (ins c cs)) : RowP g st (ins c cs) :=
  ⟨fun i hi => by rw [hp.1 i hi]; exact h.1 i hi, by rw [hp.2.1, ins_len], hp.2.2⟩
theorem RowP.ini {f : Nat → Int32} {w : Wh} {nd to : Nat} (h : ∀ i, i < 4 → f i = nI (dg w i)) (hl : w.1.length = 4) (hn : nd < 4) : RowP (upd (upd f nd (nI to)) 4 (nI 0)) (w.1.set nd to) [] := by
  refine ⟨fun i hi => ?_, by rw [upd, if_pos rfl]; rfl, fun i hi => absurd hi (Nat.not_lt_zero _)⟩
  rw [upd, if_neg (by omega), upd]
  have := set_dg (w := w) (nd := nd) (to := to) (i := i) (cs := []) hl hi
  rw [dg_st _ hi] at this
  rw [this]
  by_cases he : i = nd
  · rw [if_pos he, if_pos he]
  · rw [if_neg he, if_neg he]; exact h i hi
