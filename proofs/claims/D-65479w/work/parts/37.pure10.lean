-- PURE: what is answered
def lvE (E : List Ent) (k : Nat) : Nat := (E.getD k eD).2.2.2.1
def frE (E : List Ent) (k : Nat) : Int32 := (E.getD k eD).2.1
/-- where entries come from -/
def LIa (E : List Ent) : Prop := ∀ k, k < E.length → (frE E k = -1 ∧ lvE E k = 0) ∨ ∃ i, i < k ∧ frE E k = nI i ∧ lvE E k = lvE E i + 1
def ALa (E : List Ent) : Prop := ∀ k, k < E.length → 0 < (E.getD k eD).2.2.2.2 ∧ (E.getD k eD).2.2.2.2 ≤ 24
def wayK (E : List Ent) (i : Nat) : Nat → Nat → Nat
  | 0, k => k
  | f + 1, k => if i < lvE E k then wayK E i f (frE E k).toNatClampNeg else k
def whA (E : List Ent) (S : List Nat) (k wt : Nat) : Int32 :=
  if wt = 0 then nI (E.getD k eD).1.2.length else if wt = 1 then nI (E.getD k eD).2.2.2.1 else if wt = 2 then (E.getD k eD).2.1 else if wt = 3 then (E.getD k eD).2.2.1 else if wt = 4 then (if k < S.length then nI (S.getD k 0) else -1) else nI (E.getD k eD).2.2.2.2
def deadN (S : List Nat) : Nat → Nat
  | 0 => 0
  | k + 1 => deadN S k + (if S.getD k 0 = 0 then 1 else 0)
def sumN (pl : Nat) (E : List Ent) : Nat → Nat
  | 0 => 0
  | k + 1 => sumN pl E k + pl / (E.getD k eD).2.2.2.2
def cntA (n Sx Kx nr pl : Nat) (E : List Ent) (S : List Nat) (md ag : Nat) (x : Int32) : Int32 :=
  if x = nI 0 then nI n else if x = nI 1 then nI Sx else if x = nI 2 then nI Kx else if x = nI 3 then nI nr else if x = nI 4 then nI E.length else if x = nI 5 then nI S.length else
  if x = nI 6 then (if E.length = 0 then -1 else nI (lvE E (E.length - 1))) else if x = nI 7 then nI md else if x = nI 8 then nI ag else if x = nI 9 then nI (deadN S S.length) else if x = nI 10 then nI (sumN pl E E.length) else -1
def wayR (E : List Ent) (ov : Nat) : Int32 := if ov = 1 then nI (lvE E (E.length - 1)) else -1
theorem boF_1 {ov m : Nat} (h : ¬ boF ov m = -1) : ov = 1 ∧ boF ov m = nI (m - 1) := by
  unfold boF at h ⊢
  split at h
  · rename_i h1; rw [if_pos h1]; exact ⟨h1, rfl⟩
  · exact absurd rfl h
theorem boF_n {ov m : Nat} (h : boF ov m = -1) (hm : m < 100000) : ov ≠ 1 := by
  unfold boF at h
  split at h
  · exact absurd h (nI_neg (by omega))
  · assumption
