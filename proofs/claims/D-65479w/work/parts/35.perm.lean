-- worlds up to order
theorem va_P.mem {D : va_G} {cl : List vw_C} {ws : va_W} {H : Heap} : va_P D cl ws H ↔ ∀ q ∈ ws, va_at D cl q H := by
  constructor
  · intro h q hq
    obtain ⟨k, hk⟩ := List.getElem?_of_mem hq
    exact h k q hk
  · intro h k q hk
    exact h q (List.mem_of_getElem? hk)
theorem va_D.mem {A : Nat → Prop} {ws : va_W} : va_D A ws ↔ (ws.map (fun q => q.1)).Nodup ∧ ∀ q ∈ ws, A q.1 := by
  constructor
  · rintro ⟨h1, h2⟩
    refine ⟨List.pairwise_iff_getElem.mpr fun i j hi hj hij => ?_, fun q hq => ?_⟩
    · rw [List.length_map] at hi hj
      simp only [List.getElem_map]
      intro z
      have := h1 i j ws[i] ws[j] (List.getElem?_eq_getElem hi) (List.getElem?_eq_getElem hj) z
      omega
    · obtain ⟨k, hk⟩ := List.getElem?_of_mem hq
      exact h2 k q hk
  · rintro ⟨h1, h2⟩
    refine ⟨fun i j p q hi hj hpq => ?_, fun k q hk => h2 q (List.mem_of_getElem? hk)⟩
    obtain ⟨li, ei⟩ := List.getElem?_eq_some_iff.mp hi
    obtain ⟨lj, ej⟩ := List.getElem?_eq_some_iff.mp hj
    rcases Nat.lt_trichotomy i j with h | h | h
    · have hz := List.pairwise_iff_getElem.mp h1 i j (by rw [List.length_map]; exact li) (by rw [List.length_map]; exact lj) h
      simp only [List.getElem_map] at hz
      rw [ei, ej] at hz
      exact absurd hpq hz
    · exact h
    · have hz := List.pairwise_iff_getElem.mp h1 j i (by rw [List.length_map]; exact lj) (by rw [List.length_map]; exact li) h
      simp only [List.getElem_map] at hz
      rw [ei, ej] at hz
      exact absurd hpq.symm hz
theorem WW.perm {G : GG} {A : Nat → Prop} {s : State} {ws ws' : va_W} {H : Heap} {locs : List Loc} (h : WW G A s ws H locs) (hp : List.Perm ws ws') : WW G A s ws' H locs := by
  obtain ⟨h1, h2, h3⟩ := h
  obtain ⟨d1, d2⟩ := va_D.mem.mp h2
  refine ⟨va_P.mem.mpr fun q hq => va_P.mem.mp h1 q (hp.mem_iff.mpr hq), va_D.mem.mpr ⟨(hp.map _).nodup_iff.mp d1, fun q hq => d2 q (hp.mem_iff.mpr hq)⟩, h3⟩
theorem WW.tlD {G : GG} {A : Nat → Prop} {s : State} {C rp D : va_W} {H : Heap} {locs : List Loc} (h : WW G A s (C ++ rp ++ D) H locs) : WW G A s (C ++ D ++ rp) H locs := by
  refine h.perm ?_
  rw [List.append_assoc, List.append_assoc]
  exact (List.perm_append_comm).append_left C
theorem WW.ltD {G : GG} {A : Nat → Prop} {s : State} {C rp D : va_W} {H : Heap} {locs : List Loc} (h : WW G A s (C ++ D ++ rp) H locs) : WW G A s (C ++ (rp ++ D)) H locs := by
  refine h.perm ?_
  rw [List.append_assoc]
  exact (List.perm_append_comm).append_left C
theorem WW.out {G : GG} {A : Nat → Prop} {s : State} {C ra rb D : va_W} {H : Heap} {locs : List Loc} (h : WW G A s (C ++ (ra ++ D ++ rb)) H locs) : WW G A s (C ++ D ++ (ra ++ rb)) H locs := by
  refine h.perm ?_
  rw [List.append_assoc C D]
  refine List.Perm.append_left C ?_
  rw [← List.append_assoc D]
  exact List.Perm.append_right rb List.perm_append_comm
theorem WW.inn {G : GG} {A : Nat → Prop} {s : State} {C ra rb D : va_W} {H : Heap} {locs : List Loc} (h : WW G A s (C ++ D ++ (ra ++ rb)) H locs) : WW G A s (C ++ (ra ++ D ++ rb)) H locs := by
  refine h.perm ?_
  rw [List.append_assoc C D]
  refine List.Perm.append_left C ?_
  rw [← List.append_assoc D]
  exact List.Perm.append_right rb List.perm_append_comm
-- rules grow
theorem getD_snocR {rs : List Rl} {r : Rl} {k : Nat} : (rs ++ [r]).getD k rD = if k = rs.length then r else rs.getD k rD := by
  rw [List.getD_eq_getElem?_getD, List.getD_eq_getElem?_getD]
  by_cases h : k < rs.length
  · rw [List.getElem?_append_left h, if_neg (by omega)]
  · by_cases he : k = rs.length
    · subst he; simp
    · rw [if_neg he, List.getElem?_append_right (by omega), List.getElem?_eq_none (by simp; omega), List.getElem?_eq_none (by omega)]
theorem RP.snoc {G : GG} {rr : Nat → Option Nat} {rs : List Rl} {rp : va_W} {a b ra ka wa : Nat} {ev : Option Nat} {f g : Nat → Int32} (h : RP G rr rs rp) (hl : rs.length < 40) (ha : a < 8) (hb : b < 8) (he : ∀ k, ev = some k → k < 6) :
    RP G (va_up rr rs.length (some ra)) (rs ++ [(a, ev, b, [])]) (rp ++ [oR ra [.int (nI a), .int (evI ev), .int (nI b), .ref ka, .ref wa, .int (nI 0)], aI G ka 4 f, aI G wa 4 g]) := by
  obtain ⟨h1, h2, h3, h4⟩ := h
  refine ⟨by rw [List.length_append, List.length_singleton]; omega, fun r hr => ?_, by rw [List.length_append, List.length_append, h3]; simp only [List.length_cons, List.length_nil]; omega, fun i hi => ?_⟩
  · rcases List.mem_append.mp hr with h | h
    · exact h2 r h
    · rw [List.mem_singleton.mp h]
      exact ⟨ha, he, hb, fun s hs => by simp at hs, by simp⟩
  · rw [List.length_append, List.length_singleton] at hi
    rw [getD_snocR]
    by_cases hie : i = rs.length
    · subst hie
      rw [if_pos rfl]
      refine ⟨ra, ka, wa, f, g, by rw [va_up, if_pos rfl], ?_, ?_, ?_, fun k hk => absurd hk (Nat.not_lt_zero _), fun k hk => absurd hk (Nat.not_lt_zero _)⟩
      · rw [List.getElem?_append_right (by omega), h3, Nat.sub_self]; rfl
      · rw [List.getElem?_append_right (by omega), h3, show 3 * rs.length + 1 - 3 * rs.length = 1 by omega]; rfl
      · rw [List.getElem?_append_right (by omega), h3, show 3 * rs.length + 2 - 3 * rs.length = 2 by omega]; rfl
    · rw [if_neg hie]
      obtain ⟨ra', ka', wa', fk, fw, a1, a2, a3, a4, a5, a6⟩ := h4 i (by omega)
      exact ⟨ra', ka', wa', fk, fw, by rw [va_up, if_neg hie]; exact a1, by rw [List.getElem?_append_left (by omega)]; exact a2, by rw [List.getElem?_append_left (by omega)]; exact a3, by rw [List.getElem?_append_left (by omega)]; exact a4, a5, a6⟩
/-- one rule's cells taken out of the tail -/
theorem tail_split {rp : va_W} {k : Nat} {e1 e2 e3 : Nat × va_E} (h1 : rp[k]? = some e1) (h2 : rp[k + 1]? = some e2) (h3 : rp[k + 2]? = some e3) : ∃ ra rb, rp = ra ++ [e1, e2, e3] ++ rb ∧ ra.length = k := by
  obtain ⟨l1, g1⟩ := List.getElem?_eq_some_iff.mp h1
  obtain ⟨l2, g2⟩ := List.getElem?_eq_some_iff.mp h2
  obtain ⟨l3, g3⟩ := List.getElem?_eq_some_iff.mp h3
  refine ⟨rp.take k, rp.drop (k + 3), ?_, by rw [List.length_take]; omega⟩
  have e : rp.drop k = e1 :: e2 :: e3 :: rp.drop (k + 3) := by
    rw [List.drop_eq_getElem_cons l1, List.drop_eq_getElem_cons l2, List.drop_eq_getElem_cons l3, g1, g2, g3]
  rw [List.append_assoc]
  show rp = rp.take k ++ (e1 :: e2 :: e3 :: rp.drop (k + 3))
  rw [← e, List.take_append_drop]
theorem mid_get {ra rb : va_W} {D D' : va_W} {m : Nat} (hl : D.length = D'.length) (hm : m < ra.length ∨ ra.length + D.length ≤ m) : (ra ++ D' ++ rb)[m]? = (ra ++ D ++ rb)[m]? := by
  rcases hm with h | h
  · rw [app3_a h, app3_a h]
  · rw [List.getElem?_append_right (by rw [List.length_append]; omega), List.getElem?_append_right (by rw [List.length_append]; omega), List.length_append, List.length_append, hl]
theorem getD_setR {rs : List Rl} {r : Rl} {i k : Nat} (hi : i < rs.length) : (rs.set i r).getD k rD = if k = i then r else rs.getD k rD := by
  rw [List.getD_eq_getElem?_getD, List.getD_eq_getElem?_getD]
  by_cases h : k = i
  · subst h; rw [List.getElem?_set_self hi, if_pos rfl]; rfl
  · rw [List.getElem?_set_ne (Ne.symm h), if_neg h]
theorem RP.send {G : GG} {rr : Nat → Option Nat} {rs : List Rl} {pa pb : va_W} {i ra ka wa ms wh : Nat} {fk fw : Nat → Int32} (hi : i < rs.length) (hs : (rs.getD i rD).2.2.2.length < 4) (hms : ms < 6) (hwh : wh < 2)
    (h : RP G rr rs (pa ++ [oR ra [.int (nI (rs.getD i rD).1), .int (evI (rs.getD i rD).2.1), .int (nI (rs.getD i rD).2.2.1), .ref ka, .ref wa, .int (nI (rs.getD i rD).2.2.2.length)], aI G ka 4 fk, aI G wa 4 fw] ++ pb)) (hpa : pa.length = 3 * i) (hra : rr i = some ra)
    (hk : ∀ k, k < (rs.getD i rD).2.2.2.length → fk k = nI ((rs.getD i rD).2.2.2.getD k (0, 0)).1) (hw : ∀ k, k < (rs.getD i rD).2.2.2.length → fw k = nI ((rs.getD i rD).2.2.2.getD k (0, 0)).2) :
    RP G rr (rs.set i ((rs.getD i rD).1, (rs.getD i rD).2.1, (rs.getD i rD).2.2.1, (rs.getD i rD).2.2.2 ++ [(ms, wh)])) (pa ++ [oR ra [.int (nI (rs.getD i rD).1), .int (evI (rs.getD i rD).2.1), .int (nI (rs.getD i rD).2.2.1), .ref ka, .ref wa, .int (nI ((rs.getD i rD).2.2.2.length + 1))], aI G ka 4 (upd fk (rs.getD i rD).2.2.2.length (nI ms)), aI G wa 4 (upd fw (rs.getD i rD).2.2.2.length (nI wh))] ++ pb) := by
  obtain ⟨h1, h2, h3, h4⟩ := h
  have hro := rs_at h2 hi
  refine ⟨by rw [List.length_set]; exact h1, fun r hr => ?_, by rw [List.length_set, ← h3]; simp only [List.length_append, List.length_cons, List.length_nil], fun k hkl => ?_⟩
  · rcases List.mem_or_eq_of_mem_set hr with h | h
    · exact h2 r h
    · rw [h]
      refine ⟨hro.1, hro.2.1, hro.2.2.1, fun s hs' => ?_, by rw [List.length_append, List.length_singleton]; omega⟩
      rcases List.mem_append.mp hs' with h | h
      · exact hro.2.2.2.1 s h
      · rw [List.mem_singleton.mp h]; exact ⟨hms, hwh⟩
  · rw [List.length_set] at hkl
    rw [getD_setR hi]
    have sd : ∀ (l : List (Nat × Nat)) (x : Nat × Nat) (f : Nat → Int32) (pr : Nat × Nat → Nat), (∀ m, m < l.length → f m = nI (pr (l.getD m (0, 0)))) → ∀ m, m < (l ++ [x]).length → upd f l.length (nI (pr x)) m = nI (pr ((l ++ [x]).getD m (0, 0))) := by
      intro l x f pr hf m hm
      rw [List.length_append, List.length_singleton] at hm
      rw [List.getD_eq_getElem?_getD, upd]
      by_cases he : m = l.length
      · subst he; simp
      · rw [if_neg he, List.getElem?_append_left (by omega), ← List.getD_eq_getElem?_getD]
        exact hf m (by omega)
    by_cases he : k = i
    · subst he
      rw [if_pos rfl]
      refine ⟨ra, ka, wa, upd fk (rs.getD k rD).2.2.2.length (nI ms), upd fw (rs.getD k rD).2.2.2.length (nI wh), hra, ?_, ?_, ?_, sd _ (ms, wh) fk (fun z => z.1) hk, sd _ (ms, wh) fw (fun z => z.2) hw⟩
      · rw [← hpa, show pa.length = pa.length + 0 by omega, app3_b (t := 0) rfl]
        simp only [List.length_append, List.length_singleton]
      · rw [← hpa, app3_b (t := 1) rfl]
      · rw [← hpa, app3_b (t := 2) rfl]
    · rw [if_neg he]
      obtain ⟨ra', ka', wa', gk, gw, a1, a2, a3, a4, a5, a6⟩ := h4 k hkl
      refine ⟨ra', ka', wa', gk, gw, a1, ?_, ?_, ?_, a5, a6⟩
      · refine Eq.trans (mid_get (D := [oR ra [.int (nI (rs.getD i rD).1), .int (evI (rs.getD i rD).2.1), .int (nI (rs.getD i rD).2.2.1), .ref ka, .ref wa, .int (nI (rs.getD i rD).2.2.2.length)], aI G ka 4 fk, aI G wa 4 fw]) ?_ ?_) a2 <;> first | rfl | (simp only [List.length_cons, List.length_nil]; omega)
      · refine Eq.trans (mid_get (D := [oR ra [.int (nI (rs.getD i rD).1), .int (evI (rs.getD i rD).2.1), .int (nI (rs.getD i rD).2.2.1), .ref ka, .ref wa, .int (nI (rs.getD i rD).2.2.2.length)], aI G ka 4 fk, aI G wa 4 fw]) ?_ ?_) a3 <;> first | rfl | (simp only [List.length_cons, List.length_nil]; omega)
      · refine Eq.trans (mid_get (D := [oR ra [.int (nI (rs.getD i rD).1), .int (evI (rs.getD i rD).2.1), .int (nI (rs.getD i rD).2.2.1), .ref ka, .ref wa, .int (nI (rs.getD i rD).2.2.2.length)], aI G ka 4 fk, aI G wa 4 fw]) ?_ ?_) a4 <;> first | rfl | (simp only [List.length_cons, List.length_nil]; omega)
theorem XR.empty {j : Nat} {fm : Nat → Int64} {fs : Nat → Nat → Int32} (hj : j ≤ 7) (h : ∀ i, i < 2 ^ (8 + j) → fs 7 i = -1) : XR ([] : List Ent) j fm fs :=
  ⟨fun k hk => absurd hk (Nat.not_lt_zero _), TInv.init _ _ h, Nat.zero_le _, hj⟩
