-- worlds with a tail; rules; steps as a pure machine
theorem tg {C rp : va_W} {n k : Nat} {e : Nat × va_E} (hl : C.length = n) (h : rp[k]? = some e) : (C ++ rp)[n + k]? = some e := by
  rw [List.getElem?_append_right (by omega), ← h]
  congr 1; omega
theorem tail3 {C rp : va_W} {is0 : List Nat} {w0 : va_W} {n k : Nat} {e1 e2 e3 : Nat × va_E} (hl : C.length = n) (h0 : is0.map (fun i => (C ++ rp)[i]?) = w0.map some) (h1 : rp[k]? = some e1) (h2 : rp[k + 1]? = some e2) (h3 : rp[k + 2]? = some e3) :
    (is0 ++ [n + k, n + (k + 1), n + (k + 2)]).map (fun i => (C ++ rp)[i]?) = (w0 ++ [e1, e2, e3]).map some := by
  rw [List.map_append, List.map_append, h0]
  simp only [List.map_cons, List.map_nil, tg hl h1, tg hl h2, tg hl h3]
theorem upds_app : ∀ (is isb : List Nat) (ws wa wb : va_W), is.length = wa.length → upds ws (is ++ isb) (wa ++ wb) = upds (upds ws is wa) isb wb
  | [], isb, ws, [], wb, _ => by
    rw [List.nil_append, List.nil_append]
    show upds ws isb wb = upds (upds ws [] []) isb wb
    rfl
  | [], _, _, _ :: _, _, h => by simp at h
  | _ :: _, _, _, [], _, h => by simp at h
  | i :: is, isb, ws, e :: wa, wb, h => by
    show upds (ws.set i e) (is ++ isb) (wa ++ wb) = upds (upds (ws.set i e) is wa) isb wb
    exact upds_app is isb _ wa wb (by simpa using h)
theorem upds_same : ∀ (is : List Nat) (ws wb : va_W), is.map (fun i => ws[i]?) = wb.map some → upds ws is wb = ws
  | [], ws, [], _ => rfl
  | [], ws, _ :: _, h => by simp at h
  | _ :: _, ws, [], h => by simp at h
  | i :: is, ws, e :: wb, h => by
    simp only [List.map_cons, List.cons.injEq] at h
    have hs : ws.set i e = ws := by
      have hl := (List.getElem?_eq_some_iff.mp h.1)
      obtain ⟨hlt, he⟩ := hl
      rw [← he]
      exact List.set_getElem_self hlt
    show upds (ws.set i e) is wb = ws
    rw [hs]
    exact upds_same is ws wb h.2
theorem upds_other : ∀ (is : List Nat) (ws wa : va_W) (k : Nat), is.length = wa.length → k ∉ is → (upds ws is wa)[k]? = ws[k]?
  | [], ws, [], k, _, _ => rfl
  | [], ws, _ :: _, k, h, _ => by simp at h
  | _ :: _, ws, [], k, h, _ => by simp at h
  | i :: is, ws, e :: wa, k, h, hk => by
    show (upds (ws.set i e) is wa)[k]? = ws[k]?
    rw [upds_other is _ wa k (by simpa using h) (fun z => hk (List.mem_cons_of_mem _ z)), List.getElem?_set_ne]
    intro z
    exact hk (by rw [z]; exact List.mem_cons_self)
theorem nd_app : ∀ (is isb : List Nat), va_nd (is ++ isb) = true → ∀ i ∈ isb, i ∉ is
  | [], _, _, _, _ => List.not_mem_nil
  | a :: is, isb, h, i, hi => by
    simp only [List.cons_append, va_nd, Bool.and_eq_true, decide_eq_true_eq] at h
    intro z
    rcases List.mem_cons.mp z with rfl | z
    · exact h.1 (List.mem_append_right _ hi)
    · exact nd_app is isb h.2 i hi z
theorem updsT {ws wa wb wa' : va_W} {is isb : List Nat} (hC : (is ++ isb).map (fun i => ws[i]?) = (wa ++ wb).map some) (h1 : is.length = wa.length) (h2 : is.length = wa'.length) (hn : va_nd (is ++ isb) = true) : upds ws (is ++ isb) (wa' ++ wb) = upds ws is wa' := by
  rw [upds_app _ _ _ _ _ h2]
  apply upds_same
  rw [List.map_append, List.map_append] at hC
  have hb := (List.append_inj hC (by simpa using h1)).2
  rw [← hb]
  apply List.map_congr_left
  intro i hi
  exact upds_other is ws wa' i h2 (nd_app is isb hn i hi)
/-- a rule: state, event, to, what it sends -/
abbrev Rl : Type := Nat × Option Nat × Nat × List (Nat × Nat)
def rD : Rl := (0, none, 0, [])
def evI (o : Option Nat) : Int32 := match o with
  | none => -1
  | some k => nI k
def RlOK (r : Rl) : Prop := r.1 < 8 ∧ (∀ k, r.2.1 = some k → k < 6) ∧ r.2.2.1 < 8 ∧ (∀ s ∈ r.2.2.2, s.1 < 6 ∧ s.2 < 2) ∧ r.2.2.2.length ≤ 4
/-- the rules' objects in the tail of a world: three cells each -/
def RP (G : GG) (rr : Nat → Option Nat) (rs : List Rl) (rp : va_W) : Prop := rs.length ≤ 40 ∧ (∀ r ∈ rs, RlOK r) ∧ rp.length = 3 * rs.length ∧ ∀ i, i < rs.length → ∃ (ra ka wa : Nat) (fk fw : Nat → Int32), rr i = some ra ∧
  rp[3 * i]? = some (oR ra [.int (nI (rs.getD i rD).1), .int (evI (rs.getD i rD).2.1), .int (nI (rs.getD i rD).2.2.1), .ref ka, .ref wa, .int (nI (rs.getD i rD).2.2.2.length)]) ∧ rp[3 * i + 1]? = some (aI G ka 4 fk) ∧ rp[3 * i + 2]? = some (aI G wa 4 fw) ∧
  (∀ k, k < (rs.getD i rD).2.2.2.length → fk k = nI ((rs.getD i rD).2.2.2.getD k (0, 0)).1) ∧ (∀ k, k < (rs.getD i rD).2.2.2.length → fw k = nI ((rs.getD i rD).2.2.2.getD k (0, 0)).2)
theorem rs_at {rs : List Rl} {i : Nat} (h : ∀ r ∈ rs, RlOK r) (hi : i < rs.length) : RlOK (rs.getD i rD) := by
  rw [List.getD_eq_getElem?_getD, List.getElem?_eq_getElem hi]; exact h _ (List.getElem_mem hi)
/-- entries, steps of the one at hand, steps in all, how often one came again, over -/
abbrev E5 : Type := List Ent × Nat × Nat × Nat × Nat
def stepA (ps : List (List Nat)) (B : Nat → Bool) (n room : Nat) (w : Wh) (fr ru nd : Nat) (R : Rl) (oc : Option Nat) (σ : E5) : E5 :=
  if σ.2.2.2.2 = 0 then
    match mkW n w nd R.2.2.1 R.2.2.2 oc with
    | none => σ
    | some w1 => ((comeA ps B n room σ.1 σ.2.2.2.1 w1 (nI fr) (nI ru)).1, σ.2.1 + 1, σ.2.2.1 + 1, (comeA ps B n room σ.1 σ.2.2.2.1 w1 (nI fr) (nI ru)).2.1, (comeA ps B n room σ.1 σ.2.2.2.1 w1 (nI fr) (nI ru)).2.2)
  else σ
theorem come_ok {ps : List (List Nat)} {B : Nat → Bool} {n room ag : Nat} {E : List Ent} {w : Wh} {fr ru : Int32} (hE : EOK n room E) (h0 : 0 < ps.length) (hp : ∀ π ∈ ps, Pm n π) (hw : Vl n w) (hn : n ≤ 4) : EOK n room (comeA ps B n room E ag w fr ru).1 ∧ E.length ≤ (comeA ps B n room E ag w fr ru).1.length ∧ (∀ k, k < E.length → (comeA ps B n room E ag w fr ru).1.getD k eD = E.getD k eD) := by
  unfold comeA
  split
  · exact ⟨hE, Nat.le_refl _, fun _ _ => rfl⟩
  · rename_i h1
    split
    · exact ⟨hE, Nat.le_refl _, fun _ _ => rfl⟩
    · rename_i h2
      obtain ⟨a, b, c, d⟩ := hE
      refine ⟨⟨fun e he => ?_, ?_, ?_, d⟩, ?_, fun k hk => getD_snoc_lt hk⟩
      · rcases List.mem_append.mp he with h | h
        · exact a e h
        · rw [List.mem_singleton.mp h]
          exact frm_ok h0 hp hw hn
      · show List.Nodup (List.map _ (E ++ [_]))
        rw [List.map_append]
        refine List.nodup_append.mpr ⟨b, by simp, fun x hx y hy => ?_⟩
        simp only [List.map_cons, List.map_nil, List.mem_singleton] at hy
        intro z
        rw [z, hy] at hx
        exact h1 hx
      · show (E ++ [_]).length ≤ room
        rw [List.length_append, List.length_singleton]; omega
      · show E.length ≤ (E ++ [_]).length
        rw [List.length_append]; omega
/-- static facts of the explorer -/
def CF (n : Nat) (ps : List (List Nat)) (B : Nat → Bool) (fb fn : Nat → Int32) : Prop := n ≤ 4 ∧ (∀ i, i < 64 → fb i = if B i = true then nI 1 else nI 0) ∧ 0 < ps.length ∧ ps.length ≤ 24 ∧ (∀ π ∈ ps, Pm n π) ∧ (∀ k, k < ps.length → ∀ i, i < 4 → fn (4 * k + i) = nI ((ps.getD k []).getD i 0))
def XR (E : List Ent) (j : Nat) (fm : Nat → Int64) (fs : Nat → Nat → Int32) : Prop := XE E fm (fs 2) (fs 3) (fs 4) (fs 6) ∧ TInv (8 + j) (fs 7) fm E.length ∧ E.length ≤ 64 * 2 ^ j ∧ j ≤ 7
theorem over_iff {ov m : Nat} (ho : ov ≤ 2) (hm : m < 100000) : (boF ov m = -1 ∧ fuF ov = 0) ↔ ov = 0 := by
  unfold boF fuF
  constructor
  · rintro ⟨h1, h2⟩
    split at h1
    · exact absurd h1 (nI_neg (by omega))
    · split at h2
      · exact absurd h2 (by decide)
      · omega
  · intro h
    rw [if_neg (by omega), if_neg (by omega)]
    exact ⟨rfl, rfl⟩
theorem come_ov {ps : List (List Nat)} {B : Nat → Bool} {n room ag : Nat} {E : List Ent} {w : Wh} {fr ru : Int32} : (comeA ps B n room E ag w fr ru).2.2 ≤ 2 := by
  unfold comeA
  split
  · exact Nat.zero_le _
  · split
    · exact Nat.le_refl _
    · show (if _ then _ else _) ≤ 2
      split <;> omega
