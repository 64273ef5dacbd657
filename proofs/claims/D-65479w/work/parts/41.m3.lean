section TH
variable {E : List Ent} {od : Nat → Nat} {b : Wh} {n room lo m : Nat}
theorem th_lo (h2 : ∀ t t1, t < t1 → t1 < E.length → pk (E.getD (od t) eD).1 < pk (E.getD (od t1) eD).1) (hL : ∀ t, t < lo → pk (E.getD (od t) eD).1 < pk b) (hm : m < E.length) (hc : pk (E.getD (od m) eD).1 < pk b) : ∀ t, t ≤ m → pk (E.getD (od t) eD).1 < pk b := by
  intro t ht
  rcases Nat.eq_or_lt_of_le ht with rfl | h
  · exact hc
  · exact Nat.lt_trans (h2 t m h hm) hc
theorem th_hi (h2 : ∀ t t1, t < t1 → t1 < E.length → pk (E.getD (od t) eD).1 < pk (E.getD (od t1) eD).1) (hc : pk b ≤ pk (E.getD (od m) eD).1) : ∀ t, m ≤ t → t < E.length → pk b ≤ pk (E.getD (od t) eD).1 := by
  intro t a c
  rcases Nat.eq_or_lt_of_le a with rfl | h
  · exact hc
  · exact Nat.le_of_lt (Nat.lt_of_le_of_lt hc (h2 m t h c))
theorem th_at (h3 : ∀ k, k < E.length → ∃ t, t < E.length ∧ od t = k) (h : b ∈ E.map (fun e => e.1)) : ∃ t, t < E.length ∧ (E.getD (od t) eD).1 = b := by
  obtain ⟨e, he, rfl⟩ := List.mem_map.mp h
  obtain ⟨k, hk⟩ := List.getElem?_of_mem he
  have hl := (List.getElem?_eq_some_iff.mp hk).1
  obtain ⟨t, ht, rfl⟩ := h3 k hl
  exact ⟨t, ht, by rw [List.getD_eq_getElem?_getD, hk]; rfl⟩
theorem th_no1 (hE : EOK n room E) (hb : Vl n b) (h3 : ∀ k, k < E.length → ∃ t, t < E.length ∧ od t = k) (hL : ∀ t, t < lo → pk (E.getD (od t) eD).1 < pk b) (hlo : E.length ≤ lo) : b ∉ E.map (fun e => e.1) := by
  intro h
  obtain ⟨t, ht, he⟩ := th_at h3 h
  have := hL t (by omega)
  rw [he] at this
  omega
theorem th_no2 (hE : EOK n room E) (hb : Vl n b) (h2 : ∀ t t1, t < t1 → t1 < E.length → pk (E.getD (od t) eD).1 < pk (E.getD (od t1) eD).1) (h3 : ∀ k, k < E.length → ∃ t, t < E.length ∧ od t = k) (hL : ∀ t, t < lo → pk (E.getD (od t) eD).1 < pk b) (hH : pk b ≤ pk (E.getD (od lo) eD).1) (hne : pk (E.getD (od lo) eD).1 ≠ pk b) : b ∉ E.map (fun e => e.1) := by
  intro h
  obtain ⟨t, ht, he⟩ := th_at h3 h
  rcases Nat.lt_trichotomy t lo with c | c | c
  · have := hL t c
    rw [he] at this
    omega
  · rw [← c, he] at hne
    exact hne rfl
  · have := h2 lo t c ht
    rw [he] at this
    omega
theorem th_yes (hE : EOK n room E) (hb : Vl n b) (hk : m < E.length) (h : pk (E.getD m eD).1 = pk b) : b ∈ E.map (fun e => e.1) :=
  List.mem_map.mpr ⟨_, getD_memE hk, pk_inj (hE.1 _ (getD_memE hk)) hb h⟩
end TH
section IBM
variable {n i j v : Nat} {B : Nat → Bool} {b : Wh}
theorem isbM_in (h : (v = 0 ∧ ∀ i1 j1, j1 < i1 → i1 < i → B (8 * dg b i1 + dg b j1) = false) ∨ (v = 1 ∧ BadM n B b)) : (v = 0 ∧ (∀ i1 j1, j1 < i1 → i1 < i → B (8 * dg b i1 + dg b j1) = false) ∧ ∀ j1, j1 < 0 → B (8 * dg b i + dg b j1) = false) ∨ (v = 1 ∧ BadM n B b) := by
  rcases h with ⟨a, c⟩ | h
  · exact Or.inl ⟨a, c, fun _ hj => absurd hj (Nat.not_lt_zero _)⟩
  · exact Or.inr h
theorem isbM_1 (h : (v = 0 ∧ (∀ i1 j1, j1 < i1 → i1 < i → B (8 * dg b i1 + dg b j1) = false) ∧ ∀ j1, j1 < j → B (8 * dg b i + dg b j1) = false) ∨ (v = 1 ∧ BadM n B b)) (hv : v ≠ 0) : BadM n B b := by
  rcases h with h | h
  · exact absurd h.1 hv
  · exact h.2
theorem isbM_0 (h : (v = 0 ∧ (∀ i1 j1, j1 < i1 → i1 < i → B (8 * dg b i1 + dg b j1) = false) ∧ ∀ j1, j1 < j → B (8 * dg b i + dg b j1) = false) ∨ (v = 1 ∧ BadM n B b)) (hv : v = 0) (hb : B (8 * dg b i + dg b j) = false) : (0 = 0 ∧ (∀ i1 j1, j1 < i1 → i1 < i → B (8 * dg b i1 + dg b j1) = false) ∧ ∀ j1, j1 < j + 1 → B (8 * dg b i + dg b j1) = false) ∨ (0 = 1 ∧ BadM n B b) := by
  rcases h with ⟨-, c, d⟩ | h
  · refine Or.inl ⟨rfl, c, fun j1 hj => ?_⟩
    by_cases he : j1 = j
    · rw [he]; exact hb
    · exact d j1 (by omega)
  · omega
theorem isbM_out (h : (v = 0 ∧ (∀ i1 j1, j1 < i1 → i1 < i → B (8 * dg b i1 + dg b j1) = false) ∧ ∀ j1, j1 < j → B (8 * dg b i + dg b j1) = false) ∨ (v = 1 ∧ BadM n B b)) (hj : i ≤ j) : (v = 0 ∧ ∀ i1 j1, j1 < i1 → i1 < i + 1 → B (8 * dg b i1 + dg b j1) = false) ∨ (v = 1 ∧ BadM n B b) := by
  rcases h with ⟨a, c, d⟩ | h
  · refine Or.inl ⟨a, fun i1 j1 h1 h2 => ?_⟩
    by_cases he : i1 = i
    · rw [he] at h1 ⊢; exact d j1 (by omega)
    · exact c i1 j1 h1 (by omega)
  · exact Or.inr h
theorem isbM_nar (h : (v = 0 ∧ ∀ i1 j1, j1 < i1 → i1 < i → B (8 * dg b i1 + dg b j1) = false) ∨ (v = 1 ∧ BadM n B b)) : narrow .boolean (.int (nI v)) = .int (nI v) := by
  rcases h with ⟨rfl, -⟩ | ⟨rfl, -⟩ <;> rfl
theorem isbM_fin (h : (v = 0 ∧ ∀ i1 j1, j1 < i1 → i1 < i → B (8 * dg b i1 + dg b j1) = false) ∨ (v = 1 ∧ BadM n B b)) (hi : n ≤ i) : (nI v = nI 1 ∧ BadM n B b) ∨ (nI v = nI 0 ∧ ¬ BadM n B b) := by
  rcases h with ⟨rfl, c⟩ | ⟨rfl, c⟩
  · refine Or.inr ⟨rfl, fun ⟨i1, j1, a, d, e⟩ => ?_⟩
    rw [c i1 j1 a (by omega)] at e
    cases e
  · exact Or.inl ⟨rfl, c⟩
end IBM
set_option maxHeartbeats 4000000 in
set_option maxRecDepth 100000 in
theorem c_M_compareRow (zl : Launch) (G : GG) (h0 qr ql wi n : Nat) (v0 v1 v2 v3 v4 v5 v6 v7 v8 v9 v10 v11 v12 v13 v14 v15 v16 v17 v18 v19 v20 v21 v23 v24 v25 v26 v27 v28 v29 v30 v32 v33 : Value) (fr fl : Nat → Int32) (a b : Wh) (ha : Vl n a) (hb9 : Vl n b) (hf : Row fr (12 * wi) a) (hg : Row fl 0 b) (hwi : wi < 8192) : Ctr (S := Unit) vI zl y_M_compareRow b_M_compareRow 3 (Option.some Jvm.ClassFile.FieldType.int) 0 0 0 G [.ref h0, .int (nI wi)] ([oM h0 [v0, v1, v2, v3, v4, v5, v6, v7, v8, v9, v10, v11, v12, v13, v14, v15, v16, v17, v18, v19, v20, v21, .ref qr, v23, v24, v25, v26, v27, v28, v29, v30, .ref ql, v32, v33], aI G qr 98304 fr, aI G ql 12 fl]) (fun r _ => r = cmpN (pk a) (pk b)) (fun _ => [oM h0 [v0, v1, v2, v3, v4, v5, v6, v7, v8, v9, v10, v11, v12, v13, v14, v15, v16, v17, v18, v19, v20, v21, .ref qr, v23, v24, v25, v26, v27, v28, v29, v30, .ref ql, v32, v33], aI G qr 98304 fr, aI G ql 12 fl]) := by
  refine Ctr.start (by decide) (Nat.le_of_ble_eq_true rfl) ?_
  intro zp ze zs zm below meth zc A ls C0 hin hK hA hl hw
  obtain ⟨hx, hb, hr, hlk, hml, hown, hts⟩ := C0
  obtain ⟨R, hRR⟩ : ∃ R : Room, R = rmL 0 0 0 := ⟨_, rfl⟩
  have hRf : R.frames = 0 := by rw [hRR]
  have hRl : R.locals = 64 * 0 := by rw [hRR]
  have hRc : R.cells = 0 := by rw [hRR]
  have hRs : R.slots = 0 := by rw [hRR]
  rw [← hRR]; clear hRR
  generalize hQ : MQ below _ _ zs _ _ A = Q
  generalize hAr : List.toArray _ = args at hts hQ ⊢
  replace hl : lv_has ls 3 [(0, .ref h0), (1, .int (nI wi))] := hl
  obtain ⟨H, eH⟩ : ∃ H : Heap, H = zs.heap := ⟨_, rfl⟩
  obtain ⟨locs, eL⟩ : ∃ l0 : List Loc, l0 = [] := ⟨_, rfl⟩
  rw [← eH, ← eL] at hw ⊢; clear eH eL
  have hlb := hb9.2.2.2.1
  refine lv_iconst (v := nI 0) hx hb d_M_compareRow_0 rfl ?_
  refine lv_istore_n (lv' := [(2, .int (nI 0)), (0, .ref h0), (1, .int (nI wi))]) hx hb d_M_compareRow_1 rfl hl (by decide) rfl (fun ls hl => ?_)
  have Lp2 : ∀ N_2 : Nat, ∀ (k : Nat), (k ≤ 5) → (∀ i, i < k → dg a i = dg b i) → 5 - k < N_2 → ∀ (H : Heap) (locs : List Loc) (ls : Array Slot), lv_has ls 3 [(0, .ref h0), (1, .int (nI wi)), (2, .int (nI k))] → WW G A zs ([oM h0 [v0, v1, v2, v3, v4, v5, v6, v7, v8, v9, v10, v11, v12, v13, v14, v15, v16, v17, v18, v19, v20, v21, .ref qr, v23, v24, v25, v26, v27, v28, v29, v30, .ref ql, v32, v33], aI G qr 98304 fr, aI G ql 12 fl]) H locs → W zp zl ze R zs zm args below meth zc H locs 0 0 Q (F0 zm 2 ls []) := by
    intro N_2
    induction N_2 with
    | zero => intros; omega
    | succ N_2 ih_2 =>
      intro k hk he hN_2 H locs ls hl hw
      have hda := ha.dg128 k
      have hdb := hb9.dg128 k
      refine lv_iload_n hx hb d_M_compareRow_2 rfl (lv_at hl 2 rfl) ?_
      refine lv_iconst (v := nI 5) hx hb d_M_compareRow_3 rfl ?_
      refine r_icmp_ge (tgt := 59) hx hb (by omega) (by omega) d_M_compareRow_4 (by decide) (fun c_4 => ?_) (fun c_4 => ?_)
      · skip
        refine lv_iconst (v := nI 0) hx hb d_M_compareRow_59 rfl ?_
        refine lv_istore_n (lv' := [(2, .int (nI 0)), (0, .ref h0), (1, .int (nI wi))]) hx hb d_M_compareRow_60 rfl hl (by decide) rfl (fun ls hl => ?_)
        have Lp61 : ∀ N_61 : Nat, ∀ (k : Nat), (k ≤ b.2.length) → (∀ i, i < 5 + k → dg a i = dg b i) → b.2.length - k < N_61 → ∀ (H : Heap) (locs : List Loc) (ls : Array Slot), lv_has ls 3 [(0, .ref h0), (1, .int (nI wi)), (2, .int (nI k))] → WW G A zs ([oM h0 [v0, v1, v2, v3, v4, v5, v6, v7, v8, v9, v10, v11, v12, v13, v14, v15, v16, v17, v18, v19, v20, v21, .ref qr, v23, v24, v25, v26, v27, v28, v29, v30, .ref ql, v32, v33], aI G qr 98304 fr, aI G ql 12 fl]) H locs → W zp zl ze R zs zm args below meth zc H locs 0 0 Q (F0 zm 61 ls []) := by
          intro N_61
          induction N_61 with
          | zero => intros; omega
          | succ N_61 ih_61 =>
            intro k hk2 he2 hN_61 H locs ls hl hw
            have hda := ha.dg128 (5 + k)
            have hdb := hb9.dg128 (5 + k)
            have hl4 : a.2.length = b.2.length := he2 4 (by omega)
            refine lv_iload_n hx hb d_M_compareRow_61 rfl (lv_at hl 2 rfl) ?_
            refine lv_aload_n hx hb d_M_compareRow_62 rfl (lv_at hl 0 rfl) ?_
            refine g_M_67 hx hb hts hown hK hw 0 rfl rfl d_M_compareRow_63 ?_
            refine lv_iconst (v := nI 4) hx hb d_M_compareRow_66 rfl ?_
            refine r_iald hx hb hK hw 2 rfl (by omega) (by omega) d_M_compareRow_67 ?_
            refine r_eq (show fl 4 = nI b.2.length from hg.n) ?_
            refine r_icmp_ge (tgt := 131) hx hb (by omega) (by omega) d_M_compareRow_68 (by decide) (fun c_68 => ?_) (fun c_68 => ?_)
            · skip
              refine lv_iconst (v := nI 0) hx hb d_M_compareRow_131 rfl ?_
              exact r_ret hQ (r_iret () hx hb hr hlk hw (cmp_eq (by rw [row_eq ha hb9 (fun i hi => he2 i (by omega))])) (by omega) (by omega) d_M_compareRow_132)
            · skip
              refine lv_aload_n hx hb d_M_compareRow_71 rfl (lv_at hl 0 rfl) ?_
              refine g_M_40 hx hb hts hown hK hw 0 rfl rfl d_M_compareRow_72 ?_
              refine lv_bipush (v := nI 12) hx hb d_M_compareRow_75 (by decide) ?_
              refine lv_iload_n hx hb d_M_compareRow_77 rfl (lv_at hl 1 rfl) ?_
              refine r_imulN hx hb d_M_compareRow_78 ?_
              refine lv_iconst (v := nI 5) hx hb d_M_compareRow_79 rfl ?_
              refine r_iaddN hx hb d_M_compareRow_80 ?_
              refine lv_iload_n hx hb d_M_compareRow_81 rfl (lv_at hl 2 rfl) ?_
              refine r_iaddN hx hb d_M_compareRow_82 ?_
              refine r_iald hx hb hK hw 1 rfl (by omega) (by omega) d_M_compareRow_83 ?_
              refine r_eq (show fr (((12 * wi) + 5) + k) = nI (dg a (5 + k)) from by rw [Nat.add_assoc]; exact hf (5 + k) (by omega)) ?_
              refine lv_aload_n hx hb d_M_compareRow_84 rfl (lv_at hl 0 rfl) ?_
              refine g_M_67 hx hb hts hown hK hw 0 rfl rfl d_M_compareRow_85 ?_
              refine lv_iconst (v := nI 5) hx hb d_M_compareRow_88 rfl ?_
              refine lv_iload_n hx hb d_M_compareRow_89 rfl (lv_at hl 2 rfl) ?_
              refine r_iaddN hx hb d_M_compareRow_90 ?_
              refine r_iald hx hb hK hw 2 rfl (by omega) (by omega) d_M_compareRow_91 ?_
              refine r_eq (show fl (5 + k) = nI (dg b (5 + k)) from by have := hg (5 + k) (by omega); rwa [Nat.zero_add] at this) ?_
              refine r_icmp_eq (tgt := 125) hx hb (by omega) (by omega) d_M_compareRow_92 (by decide) (fun c_92 => ?_) (fun c_92 => ?_)
              · skip
                refine r_iincN (n := 1) (lv' := [(2, .int (nI (k + 1))), (0, .ref h0), (1, .int (nI wi))]) hx hb d_M_compareRow_125 hl (k := 2) rfl (by decide) rfl (fun ls hl => ?_)
                refine lv_goto (tgt := 61) hx hb d_M_compareRow_128 (by decide) ?_
                exact ih_61 (k + 1) (by omega) (fun i hi => by by_cases hz : i = 5 + k; rw [hz]; exact c_92; exact he2 i (by omega)) (by omega) _ _ _ (lv_sub hl [1, 2, 0] rfl) hw
              · skip
                refine lv_aload_n hx hb d_M_compareRow_95 rfl (lv_at hl 0 rfl) ?_
                refine g_M_40 hx hb hts hown hK hw 0 rfl rfl d_M_compareRow_96 ?_
                refine lv_bipush (v := nI 12) hx hb d_M_compareRow_99 (by decide) ?_
                refine lv_iload_n hx hb d_M_compareRow_101 rfl (lv_at hl 1 rfl) ?_
                refine r_imulN hx hb d_M_compareRow_102 ?_
                refine lv_iconst (v := nI 5) hx hb d_M_compareRow_103 rfl ?_
                refine r_iaddN hx hb d_M_compareRow_104 ?_
                refine lv_iload_n hx hb d_M_compareRow_105 rfl (lv_at hl 2 rfl) ?_
                refine r_iaddN hx hb d_M_compareRow_106 ?_
                refine r_iald hx hb hK hw 1 rfl (by omega) (by omega) d_M_compareRow_107 ?_
                refine r_eq (show fr (((12 * wi) + 5) + k) = nI (dg a (5 + k)) from by rw [Nat.add_assoc]; exact hf (5 + k) (by omega)) ?_
                refine lv_aload_n hx hb d_M_compareRow_108 rfl (lv_at hl 0 rfl) ?_
                refine g_M_67 hx hb hts hown hK hw 0 rfl rfl d_M_compareRow_109 ?_
                refine lv_iconst (v := nI 5) hx hb d_M_compareRow_112 rfl ?_
                refine lv_iload_n hx hb d_M_compareRow_113 rfl (lv_at hl 2 rfl) ?_
                refine r_iaddN hx hb d_M_compareRow_114 ?_
                refine r_iald hx hb hK hw 2 rfl (by omega) (by omega) d_M_compareRow_115 ?_
                refine r_eq (show fl (5 + k) = nI (dg b (5 + k)) from by have := hg (5 + k) (by omega); rwa [Nat.zero_add] at this) ?_
                refine r_icmp_ge (tgt := 123) hx hb (by omega) (by omega) d_M_compareRow_116 (by decide) (fun c_116 => ?_) (fun c_116 => ?_)
                · skip
                  refine lv_iconst (v := nI 1) hx hb d_M_compareRow_123 rfl ?_
                  exact r_ret hQ (r_iret () hx hb hr hlk hw (cmp_gt (pk_less hb9 ha (by omega) (fun i hi => (he2 i hi).symm) (by omega))) (by omega) (by omega) d_M_compareRow_124)
                · skip
                  refine lv_iconst (v := -1) hx hb d_M_compareRow_119 (by decide) ?_
                  refine lv_goto (tgt := 124) hx hb d_M_compareRow_120 (by decide) ?_
                  exact r_ret hQ (r_iret () hx hb hr hlk hw (cmp_lt (pk_less ha hb9 (by omega) he2 (by omega))) (by omega) (by omega) d_M_compareRow_124)
        exact Lp61 _ 0 (by omega) (fun i hi => he i (by omega)) (Nat.lt_succ_self _) _ _ _ (lv_sub hl [1, 2, 0] rfl) hw
      · skip
        refine lv_aload_n hx hb d_M_compareRow_7 rfl (lv_at hl 0 rfl) ?_
        refine g_M_40 hx hb hts hown hK hw 0 rfl rfl d_M_compareRow_8 ?_
        refine lv_bipush (v := nI 12) hx hb d_M_compareRow_11 (by decide) ?_
        refine lv_iload_n hx hb d_M_compareRow_13 rfl (lv_at hl 1 rfl) ?_
        refine r_imulN hx hb d_M_compareRow_14 ?_
        refine lv_iload_n hx hb d_M_compareRow_15 rfl (lv_at hl 2 rfl) ?_
        refine r_iaddN hx hb d_M_compareRow_16 ?_
        refine r_iald hx hb hK hw 1 rfl (by omega) (by omega) d_M_compareRow_17 ?_
        refine r_eq (show fr ((12 * wi) + k) = nI (dg a k) from hf k (by omega)) ?_
        refine lv_aload_n hx hb d_M_compareRow_18 rfl (lv_at hl 0 rfl) ?_
        refine g_M_67 hx hb hts hown hK hw 0 rfl rfl d_M_compareRow_19 ?_
        refine lv_iload_n hx hb d_M_compareRow_22 rfl (lv_at hl 2 rfl) ?_
        refine r_iald hx hb hK hw 2 rfl (by omega) (by omega) d_M_compareRow_23 ?_
        refine r_eq (show fl k = nI (dg b k) from by have := hg k (by omega); rwa [Nat.zero_add] at this) ?_
        refine r_icmp_eq (tgt := 53) hx hb (by omega) (by omega) d_M_compareRow_24 (by decide) (fun c_24 => ?_) (fun c_24 => ?_)
        · skip
          refine r_iincN (n := 1) (lv' := [(2, .int (nI (k + 1))), (0, .ref h0), (1, .int (nI wi))]) hx hb d_M_compareRow_53 hl (k := 2) rfl (by decide) rfl (fun ls hl => ?_)
          refine lv_goto (tgt := 2) hx hb d_M_compareRow_56 (by decide) ?_
          exact ih_2 (k + 1) (by omega) (fun i hi => by by_cases hz : i = k; rw [hz]; exact c_24; exact he i (by omega)) (by omega) _ _ _ (lv_sub hl [1, 2, 0] rfl) hw
        · skip
          refine lv_aload_n hx hb d_M_compareRow_27 rfl (lv_at hl 0 rfl) ?_
          refine g_M_40 hx hb hts hown hK hw 0 rfl rfl d_M_compareRow_28 ?_
          refine lv_bipush (v := nI 12) hx hb d_M_compareRow_31 (by decide) ?_
          refine lv_iload_n hx hb d_M_compareRow_33 rfl (lv_at hl 1 rfl) ?_
          refine r_imulN hx hb d_M_compareRow_34 ?_
          refine lv_iload_n hx hb d_M_compareRow_35 rfl (lv_at hl 2 rfl) ?_
          refine r_iaddN hx hb d_M_compareRow_36 ?_
          refine r_iald hx hb hK hw 1 rfl (by omega) (by omega) d_M_compareRow_37 ?_
          refine r_eq (show fr ((12 * wi) + k) = nI (dg a k) from hf k (by omega)) ?_
          refine lv_aload_n hx hb d_M_compareRow_38 rfl (lv_at hl 0 rfl) ?_
          refine g_M_67 hx hb hts hown hK hw 0 rfl rfl d_M_compareRow_39 ?_
          refine lv_iload_n hx hb d_M_compareRow_42 rfl (lv_at hl 2 rfl) ?_
          refine r_iald hx hb hK hw 2 rfl (by omega) (by omega) d_M_compareRow_43 ?_
          refine r_eq (show fl k = nI (dg b k) from by have := hg k (by omega); rwa [Nat.zero_add] at this) ?_
          refine r_icmp_ge (tgt := 51) hx hb (by omega) (by omega) d_M_compareRow_44 (by decide) (fun c_44 => ?_) (fun c_44 => ?_)
          · skip
            refine lv_iconst (v := nI 1) hx hb d_M_compareRow_51 rfl ?_
            exact r_ret hQ (r_iret () hx hb hr hlk hw (cmp_gt (pk_less hb9 ha (by omega) (fun i hi => (he i hi).symm) (by omega))) (by omega) (by omega) d_M_compareRow_52)
          · skip
            refine lv_iconst (v := -1) hx hb d_M_compareRow_47 (by decide) ?_
            refine lv_goto (tgt := 52) hx hb d_M_compareRow_48 (by decide) ?_
            exact r_ret hQ (r_iret () hx hb hr hlk hw (cmp_lt (pk_less ha hb9 (by omega) he (by omega))) (by omega) (by omega) d_M_compareRow_52)
  exact Lp2 _ 0 (by omega) (fun i hi => absurd hi (Nat.not_lt_zero _)) (Nat.lt_succ_self _) _ _ _ (lv_sub hl [1, 2, 0] rfl) hw
set_option maxHeartbeats 4000000 in
set_option maxRecDepth 100000 in
theorem c_M_isThere (zl : Launch) (G : GG) (h0 qr qd ql n room : Nat) (v0 v1 v2 v3 v4 v5 v6 v7 v8 v9 v10 v11 v12 v13 v14 v16 v17 v18 v19 v20 v21 v24 v25 v26 v27 v28 v29 v30 v32 v33 : Value) (fr fd fl : Nat → Int32) (E : List Ent) (od : Nat → Nat) (b : Wh) (hb9 : Vl n b) (hg : Row fl 0 b) (hE : EOK n room E) (hR : ∀ k, k < E.length → Row fr (12 * k) (E.getD k eD).1) (h1 : ∀ t, t < E.length → fd t = nI (od t) ∧ od t < E.length) (h2 : ∀ t t1, t < t1 → t1 < E.length → pk (E.getD (od t) eD).1 < pk (E.getD (od t1) eD).1) (h3 : ∀ k, k < E.length → ∃ t, t < E.length ∧ od t = k) : Ctr (S := Nat) vI zl y_M_isThere b_M_isThere 4 (Option.some Jvm.ClassFile.FieldType.boolean) 1 0 0 G [.ref h0] ([oM h0 [v0, v1, v2, v3, v4, v5, v6, v7, v8, v9, v10, v11, v12, v13, v14, .int (nI E.length), v16, v17, v18, v19, v20, v21, .ref qr, .ref qd, v24, v25, v26, v27, v28, v29, v30, .ref ql, v32, v33], aI G qr 98304 fr, aI G qd 8192 fd, aI G ql 12 fl]) (fun r u => r = (if b ∈ E.map (fun e => e.1) then nI 1 else nI 0) ∧ ODat E od b u) (fun u => [oM h0 [v0, v1, v2, v3, v4, v5, v6, v7, v8, v9, v10, v11, v12, v13, v14, .int (nI E.length), v16, v17, v18, v19, v20, v21, .ref qr, .ref qd, v24, v25, v26, v27, v28, v29, v30, .ref ql, v32, .int (nI u)], aI G qr 98304 fr, aI G qd 8192 fd, aI G ql 12 fl]) := by
  refine Ctr.start (by decide) (Nat.le_of_ble_eq_true rfl) ?_
  intro zp ze zs zm below meth zc A ls C0 hin hK hA hl hw
  obtain ⟨hx, hb, hr, hlk, hml, hown, hts⟩ := C0
  obtain ⟨R, hRR⟩ : ∃ R : Room, R = rmL 1 0 0 := ⟨_, rfl⟩
  have hRf : R.frames = 1 := by rw [hRR]
  have hRl : R.locals = 64 * 1 := by rw [hRR]
  have hRc : R.cells = 0 := by rw [hRR]
  have hRs : R.slots = 0 := by rw [hRR]
  rw [← hRR]; clear hRR
  generalize hQ : MQ below _ _ zs _ _ A = Q
  generalize hAr : List.toArray _ = args at hts hQ ⊢
  replace hl : lv_has ls 4 [(0, .ref h0)] := hl
  obtain ⟨H, eH⟩ : ∃ H : Heap, H = zs.heap := ⟨_, rfl⟩
  obtain ⟨locs, eL⟩ : ∃ l0 : List Loc, l0 = [] := ⟨_, rfl⟩
  rw [← eH, ← eL] at hw ⊢; clear eH eL
  have hE8 := hE.2.2
  refine lv_iconst (v := nI 0) hx hb d_M_isThere_0 rfl ?_
  refine lv_istore_n (lv' := [(1, .int (nI 0)), (0, .ref h0)]) hx hb d_M_isThere_1 rfl hl (by decide) rfl (fun ls hl => ?_)
  refine lv_aload_n hx hb d_M_isThere_2 rfl (lv_at hl 1 rfl) ?_
  refine g_M_82 hx hb hts hown hK hw 0 rfl rfl d_M_isThere_3 ?_
  refine lv_istore_n (lv' := [(2, .int (nI E.length)), (1, .int (nI 0)), (0, .ref h0)]) hx hb d_M_isThere_6 rfl hl (by decide) rfl (fun ls hl => ?_)
  have Lp7 : ∀ N_7 : Nat, ∀ (lo : Nat) (hi : Nat), (lo ≤ hi ∧ hi ≤ E.length) → (∀ t, t < lo → pk (E.getD (od t) eD).1 < pk b) → (∀ t, hi ≤ t → t < E.length → pk b ≤ pk (E.getD (od t) eD).1) → hi - lo < N_7 → ∀ (H : Heap) (locs : List Loc) (ls : Array Slot), lv_has ls 4 [(0, .ref h0), (1, .int (nI lo)), (2, .int (nI hi))] → WW G A zs ([oM h0 [v0, v1, v2, v3, v4, v5, v6, v7, v8, v9, v10, v11, v12, v13, v14, .int (nI E.length), v16, v17, v18, v19, v20, v21, .ref qr, .ref qd, v24, v25, v26, v27, v28, v29, v30, .ref ql, v32, v33], aI G qr 98304 fr, aI G qd 8192 fd, aI G ql 12 fl]) H locs → W zp zl ze R zs zm args below meth zc H locs 0 0 Q (F0 zm 7 ls []) := by
    intro N_7
    induction N_7 with
    | zero => intros; omega
    | succ N_7 ih_7 =>
      intro lo hi hlh hL hH hN_7 H locs ls hl hw
      refine lv_iload_n hx hb d_M_isThere_7 rfl (lv_at hl 1 rfl) ?_
      refine lv_iload_n hx hb d_M_isThere_8 rfl (lv_at hl 2 rfl) ?_
      refine r_icmp_ge (tgt := 43) hx hb (by omega) (by omega) d_M_isThere_9 (by decide) (fun c_9 => ?_) (fun c_9 => ?_)
      · skip
        refine lv_aload_n hx hb d_M_isThere_43 rfl (lv_at hl 0 rfl) ?_
        refine lv_iload_n hx hb d_M_isThere_44 rfl (lv_at hl 1 rfl) ?_
        refine p_M_139 hx hb hts hown hK hw 0 rfl (Nat.le_of_ble_eq_true rfl) d_M_isThere_45 (fun H locs hw1 => ?_)
        replace hw : WW G A zs ([oM h0 [v0, v1, v2, v3, v4, v5, v6, v7, v8, v9, v10, v11, v12, v13, v14, .int (nI E.length), v16, v17, v18, v19, v20, v21, .ref qr, .ref qd, v24, v25, v26, v27, v28, v29, v30, .ref ql, v32, .int (nI lo)], aI G qr 98304 fr, aI G qd 8192 fd, aI G ql 12 fl]) H locs := hw1
        refine lv_iload_n hx hb d_M_isThere_48 rfl (lv_at hl 1 rfl) ?_
        refine lv_aload_n hx hb d_M_isThere_49 rfl (lv_at hl 0 rfl) ?_
        refine g_M_82 hx hb hts hown hK hw 0 rfl rfl d_M_isThere_50 ?_
        refine r_icmp_ge (tgt := 73) hx hb (by omega) (by omega) d_M_isThere_53 (by decide) (fun c_53 => ?_) (fun c_53 => ?_)
        · skip
          refine lv_iconst (v := nI 0) hx hb d_M_isThere_73 rfl ?_
          exact r_ret hQ (r_zret lo hx hb hr hlk hw (⟨by rw [if_neg (th_no1 hE hb9 h3 hL (by omega))], (by omega), hL, fun t a c => absurd c (by omega)⟩) (by decide) (by omega) (by omega) d_M_isThere_74)
        · skip
          refine lv_aload_n hx hb d_M_isThere_56 rfl (lv_at hl 0 rfl) ?_
          refine lv_aload_n hx hb d_M_isThere_57 rfl (lv_at hl 0 rfl) ?_
          refine g_M_43 hx hb hts hown hK hw 0 rfl rfl d_M_isThere_58 ?_
          refine lv_iload_n hx hb d_M_isThere_61 rfl (lv_at hl 1 rfl) ?_
          refine r_iald hx hb hK hw 2 rfl (by omega) (by omega) d_M_isThere_62 ?_
          refine r_eq (show fd lo = nI (od lo) from (h1 _ c_53).1) ?_
          refine xV_i (rest := []) (As := [.int (nI (od lo))]) hx hb hml hown hts hK hA hw k_M_135 (c_M_compareRow zl G h0 qr ql (od lo) n v0 v1 v2 v3 v4 v5 v6 v7 v8 v9 v10 v11 v12 v13 v14 (.int (nI E.length)) v16 v17 v18 v19 v20 v21 (.ref qd) v24 v25 v26 v27 v28 v29 v30 v32 (.int (nI lo)) fr fl (E.getD (od lo) eD).1 b (hE.1 _ (getD_memE (h1 _ c_53).2)) hb9 (hR _ (h1 _ c_53).2) hg (by have := (h1 _ c_53).2; omega)) ([0, 1, 3]) rfl rfl (fun _ => Nat.le_of_ble_eq_true rfl) 0 rfl rfl rfl rfl hl.1 (Nat.le_of_ble_eq_true rfl) ⟨(by omega), (by omega)⟩ ⟨(by omega), (by omega)⟩ d_M_isThere_63 (fun r u H locs hp hw1 => ?_)
          refine W.cs (cells' := 0) (slots' := 0) rfl rfl ?_
          replace hw : WW G A zs ([oM h0 [v0, v1, v2, v3, v4, v5, v6, v7, v8, v9, v10, v11, v12, v13, v14, .int (nI E.length), v16, v17, v18, v19, v20, v21, .ref qr, .ref qd, v24, v25, v26, v27, v28, v29, v30, .ref ql, v32, .int (nI lo)], aI G qr 98304 fr, aI G qd 8192 fd, aI G ql 12 fl]) H locs := hw1
          refine lv_if_ne (tgt := 73) hx hb d_M_isThere_66 (by decide) (fun c_66 => ?_) (fun c_66 => ?_)
          · skip
            refine lv_iconst (v := nI 0) hx hb d_M_isThere_73 rfl ?_
            exact r_ret hQ (r_zret lo hx hb hr hlk hw (⟨by rw [if_neg (th_no2 hE hb9 h2 h3 hL (hH lo (by omega) c_53) (cmpN_n0 (by rw [← hp]; exact c_66)))], by omega, hL, fun t a c => hH t (by omega) c⟩) (by decide) (by omega) (by omega) d_M_isThere_74)
          · skip
            refine lv_iconst (v := nI 1) hx hb d_M_isThere_69 rfl ?_
            refine lv_goto (tgt := 74) hx hb d_M_isThere_70 (by decide) ?_
            exact r_ret hQ (r_zret lo hx hb hr hlk hw (⟨by rw [if_pos (th_yes hE hb9 (h1 _ c_53).2 (cmpN_0 (by rw [← hp]; exact c_66)))], by omega, hL, fun t a c => hH t (by omega) c⟩) (by decide) (by omega) (by omega) d_M_isThere_74)
      · skip
        refine lv_iload_n hx hb d_M_isThere_12 rfl (lv_at hl 1 rfl) ?_
        refine lv_iload_n hx hb d_M_isThere_13 rfl (lv_at hl 2 rfl) ?_
        refine r_iaddN hx hb d_M_isThere_14 ?_
        refine lv_iconst (v := nI 2) hx hb d_M_isThere_15 rfl ?_
        refine r_idivN hx hb (by omega) (by omega) (by omega) d_M_isThere_16 ?_
        refine lv_istore_n (lv' := [(3, .int (nI ((lo + hi) / 2))), (0, .ref h0), (1, .int (nI lo)), (2, .int (nI hi))]) hx hb d_M_isThere_17 rfl hl (by decide) rfl (fun ls hl => ?_)
        have hmid : (lo + hi) / 2 < E.length := by omega
        refine lv_aload_n hx hb d_M_isThere_18 rfl (lv_at hl 1 rfl) ?_
        refine lv_aload_n hx hb d_M_isThere_19 rfl (lv_at hl 1 rfl) ?_
        refine g_M_43 hx hb hts hown hK hw 0 rfl rfl d_M_isThere_20 ?_
        refine lv_iload_n hx hb d_M_isThere_23 rfl (lv_at hl 0 rfl) ?_
        refine r_iald hx hb hK hw 2 rfl (by omega) (by omega) d_M_isThere_24 ?_
        refine r_eq (show fd ((lo + hi) / 2) = nI (od ((lo + hi) / 2)) from (h1 _ hmid).1) ?_
        refine xV_i (rest := []) (As := [.int (nI (od ((lo + hi) / 2)))]) hx hb hml hown hts hK hA hw k_M_135 (c_M_compareRow zl G h0 qr ql (od ((lo + hi) / 2)) n v0 v1 v2 v3 v4 v5 v6 v7 v8 v9 v10 v11 v12 v13 v14 (.int (nI E.length)) v16 v17 v18 v19 v20 v21 (.ref qd) v24 v25 v26 v27 v28 v29 v30 v32 v33 fr fl (E.getD (od ((lo + hi) / 2)) eD).1 b (hE.1 _ (getD_memE (h1 _ hmid).2)) hb9 (hR _ (h1 _ hmid).2) hg (by have := (h1 _ hmid).2; omega)) ([0, 1, 3]) rfl rfl (fun _ => Nat.le_of_ble_eq_true rfl) 0 rfl rfl rfl rfl hl.1 (Nat.le_of_ble_eq_true rfl) ⟨(by omega), (by omega)⟩ ⟨(by omega), (by omega)⟩ d_M_isThere_25 (fun r u H locs hp hw1 => ?_)
        refine W.cs (cells' := 0) (slots' := 0) rfl rfl ?_
        replace hw : WW G A zs ([oM h0 [v0, v1, v2, v3, v4, v5, v6, v7, v8, v9, v10, v11, v12, v13, v14, .int (nI E.length), v16, v17, v18, v19, v20, v21, .ref qr, .ref qd, v24, v25, v26, v27, v28, v29, v30, .ref ql, v32, v33], aI G qr 98304 fr, aI G qd 8192 fd, aI G ql 12 fl]) H locs := hw1
        refine lv_if_ge (tgt := 38) hx hb d_M_isThere_28 (by decide) (fun c_28 => ?_) (fun c_28 => ?_)
        · skip
          refine lv_iload_n hx hb d_M_isThere_38 rfl (lv_at hl 0 rfl) ?_
          refine lv_istore_n (lv' := [(2, .int (nI ((lo + hi) / 2))), (3, .int (nI ((lo + hi) / 2))), (0, .ref h0), (1, .int (nI lo))]) hx hb d_M_isThere_39 rfl hl (by decide) rfl (fun ls hl => ?_)
          refine lv_goto (tgt := 7) hx hb d_M_isThere_40 (by decide) ?_
          exact ih_7 lo ((lo + hi) / 2) ⟨by omega, by omega⟩ hL (fun t a c => th_hi h2 (cmpN_ge (by rw [← hp]; exact c_28)) t a c) (by omega) _ _ _ (lv_sub hl [2, 3, 0] rfl) hw
        · skip
          refine lv_iload_n hx hb d_M_isThere_31 rfl (lv_at hl 0 rfl) ?_
          refine lv_iconst (v := nI 1) hx hb d_M_isThere_32 rfl ?_
          refine r_iaddN hx hb d_M_isThere_33 ?_
          refine lv_istore_n (lv' := [(1, .int (nI (((lo + hi) / 2) + 1))), (3, .int (nI ((lo + hi) / 2))), (0, .ref h0), (2, .int (nI hi))]) hx hb d_M_isThere_34 rfl hl (by decide) rfl (fun ls hl => ?_)
          refine lv_goto (tgt := 40) hx hb d_M_isThere_35 (by decide) ?_
          refine lv_goto (tgt := 7) hx hb d_M_isThere_40 (by decide) ?_
          exact ih_7 (((lo + hi) / 2) + 1) hi ⟨by omega, by omega⟩ (fun t ht => th_lo h2 hL hmid (cmpN_neg (by rw [← hp]; exact c_28)) t (by omega)) hH (by omega) _ _ _ (lv_sub hl [2, 0, 3] rfl) hw
  exact Lp7 _ 0 E.length ⟨by omega, by omega⟩ (fun t ht => absurd ht (Nat.not_lt_zero _)) (fun t a b => absurd b (by omega)) (Nat.lt_succ_self _) _ _ _ (lv_sub hl [2, 1, 0] rfl) hw
set_option maxHeartbeats 4000000 in
set_option maxRecDepth 100000 in
theorem c_M_isBad (zl : Launch) (G : GG) (h0 qb ql n : Nat) (v0 v2 v3 v4 v5 v6 v7 v8 v9 v10 v11 v13 v14 v15 v16 v17 v18 v19 v20 v21 v22 v23 v24 v25 v26 v27 v28 v29 v30 v32 v33 : Value) (fb fl : Nat → Int32) (B : Nat → Bool) (b : Wh) (hn4 : n ≤ 4) (hb9 : Vl n b) (hg : Row fl 0 b) (hB : ∀ i, i < 64 → fb i = if B i = true then nI 1 else nI 0) : Ctr (S := Unit) vI zl y_M_isBad b_M_isBad 4 (Option.some Jvm.ClassFile.FieldType.boolean) 0 0 0 G [.ref h0] ([oM h0 [v0, .int (nI n), v2, v3, v4, v5, v6, v7, v8, v9, v10, v11, .ref qb, v13, v14, v15, v16, v17, v18, v19, v20, v21, v22, v23, v24, v25, v26, v27, v28, v29, v30, .ref ql, v32, v33], aZ G qb 64 fb, aI G ql 12 fl]) (fun r _ => (r = nI 1 ∧ BadM n B b) ∨ (r = nI 0 ∧ ¬ BadM n B b)) (fun _ => [oM h0 [v0, .int (nI n), v2, v3, v4, v5, v6, v7, v8, v9, v10, v11, .ref qb, v13, v14, v15, v16, v17, v18, v19, v20, v21, v22, v23, v24, v25, v26, v27, v28, v29, v30, .ref ql, v32, v33], aZ G qb 64 fb, aI G ql 12 fl]) := by
  refine Ctr.start (by decide) (Nat.le_of_ble_eq_true rfl) ?_
  intro zp ze zs zm below meth zc A ls C0 hin hK hA hl hw
  obtain ⟨hx, hb, hr, hlk, hml, hown, hts⟩ := C0
  obtain ⟨R, hRR⟩ : ∃ R : Room, R = rmL 0 0 0 := ⟨_, rfl⟩
  have hRf : R.frames = 0 := by rw [hRR]
  have hRl : R.locals = 64 * 0 := by rw [hRR]
  have hRc : R.cells = 0 := by rw [hRR]
  have hRs : R.slots = 0 := by rw [hRR]
  rw [← hRR]; clear hRR
  generalize hQ : MQ below _ _ zs _ _ A = Q
  generalize hAr : List.toArray _ = args at hts hQ ⊢
  replace hl : lv_has ls 4 [(0, .ref h0)] := hl
  obtain ⟨H, eH⟩ : ∃ H : Heap, H = zs.heap := ⟨_, rfl⟩
  obtain ⟨locs, eL⟩ : ∃ l0 : List Loc, l0 = [] := ⟨_, rfl⟩
  rw [← eH, ← eL] at hw ⊢; clear eH eL
  refine lv_iconst (v := nI 0) hx hb d_M_isBad_0 rfl ?_
  refine lv_istore_n (lv' := [(1, .int (nI 0)), (0, .ref h0)]) hx hb d_M_isBad_1 rfl hl (by decide) rfl (fun ls hl => ?_)
  refine lv_iconst (v := nI 0) hx hb d_M_isBad_2 rfl ?_
  refine lv_istore_n (lv' := [(2, .int (nI 0)), (1, .int (nI 0)), (0, .ref h0)]) hx hb d_M_isBad_3 rfl hl (by decide) rfl (fun ls hl => ?_)
  have Lp4 : ∀ N_4 : Nat, ∀ (i : Nat) (v : Nat), (i ≤ n) → ((v = 0 ∧ ∀ i1 j1, j1 < i1 → i1 < i → B (8 * dg b i1 + dg b j1) = false) ∨ (v = 1 ∧ BadM n B b)) → n - i < N_4 → ∀ (H : Heap) (locs : List Loc) (ls : Array Slot), lv_has ls 4 [(0, .ref h0), (1, .int (nI v)), (2, .int (nI i))] → WW G A zs ([oM h0 [v0, .int (nI n), v2, v3, v4, v5, v6, v7, v8, v9, v10, v11, .ref qb, v13, v14, v15, v16, v17, v18, v19, v20, v21, v22, v23, v24, v25, v26, v27, v28, v29, v30, .ref ql, v32, v33], aZ G qb 64 fb, aI G ql 12 fl]) H locs → W zp zl ze R zs zm args below meth zc H locs 0 0 Q (F0 zm 4 ls []) := by
    intro N_4
    induction N_4 with
    | zero => intros; omega
    | succ N_4 ih_4 =>
      intro i v hi hv hN_4 H locs ls hl hw
      refine lv_iload_n hx hb d_M_isBad_4 rfl (lv_at hl 2 rfl) ?_
      refine lv_aload_n hx hb d_M_isBad_5 rfl (lv_at hl 0 rfl) ?_
      refine g_M_70 hx hb hts hown hK hw 0 rfl rfl d_M_isBad_6 ?_
      refine r_icmp_ge (tgt := 65) hx hb (by omega) (by omega) d_M_isBad_9 (by decide) (fun c_9 => ?_) (fun c_9 => ?_)
      · skip
        refine lv_iload_n hx hb d_M_isBad_65 rfl (lv_at hl 1 rfl) ?_
        exact r_ret hQ (r_zret () hx hb hr hlk hw (isbM_fin hv (by omega)) (isbM_nar hv) (by omega) (by omega) d_M_isBad_66)
      · skip
        refine lv_iconst (v := nI 0) hx hb d_M_isBad_12 rfl ?_
        refine lv_istore_n (lv' := [(3, .int (nI 0)), (0, .ref h0), (1, .int (nI v)), (2, .int (nI i))]) hx hb d_M_isBad_13 rfl hl (by decide) rfl (fun ls hl => ?_)
        have Lp14 : ∀ N_14 : Nat, ∀ (j : Nat) (v : Nat), (j ≤ i) → ((v = 0 ∧ (∀ i1 j1, j1 < i1 → i1 < i → B (8 * dg b i1 + dg b j1) = false) ∧ ∀ j1, j1 < j → B (8 * dg b i + dg b j1) = false) ∨ (v = 1 ∧ BadM n B b)) → i - j < N_14 → ∀ (H : Heap) (locs : List Loc) (ls : Array Slot), lv_has ls 4 [(0, .ref h0), (1, .int (nI v)), (2, .int (nI i)), (3, .int (nI j))] → WW G A zs ([oM h0 [v0, .int (nI n), v2, v3, v4, v5, v6, v7, v8, v9, v10, v11, .ref qb, v13, v14, v15, v16, v17, v18, v19, v20, v21, v22, v23, v24, v25, v26, v27, v28, v29, v30, .ref ql, v32, v33], aZ G qb 64 fb, aI G ql 12 fl]) H locs → W zp zl ze R zs zm args below meth zc H locs 0 0 Q (F0 zm 14 ls []) := by
          intro N_14
          induction N_14 with
          | zero => intros; omega
          | succ N_14 ih_14 =>
            intro j v hj hv2 hN_14 H locs ls hl hw
            have hd1 := hb9.dg8 (k := i) (by omega)
            have hd2 := hb9.dg8 (k := j) (by omega)
            refine lv_iload_n hx hb d_M_isBad_14 rfl (lv_at hl 3 rfl) ?_
            refine lv_iload_n hx hb d_M_isBad_15 rfl (lv_at hl 2 rfl) ?_
            refine r_icmp_ge (tgt := 59) hx hb (by omega) (by omega) d_M_isBad_16 (by decide) (fun c_16 => ?_) (fun c_16 => ?_)
            · skip
              refine r_iincN (n := 1) (lv' := [(2, .int (nI (i + 1))), (0, .ref h0), (1, .int (nI v)), (3, .int (nI j))]) hx hb d_M_isBad_59 hl (k := 2) rfl (by decide) rfl (fun ls hl => ?_)
              refine lv_goto (tgt := 4) hx hb d_M_isBad_62 (by decide) ?_
              exact ih_4 (i + 1) v (by omega) (isbM_out hv2 (by omega)) (by omega) _ _ _ (lv_sub hl [1, 2, 0] rfl) hw
            · skip
              refine lv_iload_n hx hb d_M_isBad_19 rfl (lv_at hl 1 rfl) ?_
              refine r_if_ne (tgt := 47) hx hb (by rcases hv2 with h | h <;> omega) d_M_isBad_20 (by decide) (fun c_20 => ?_) (fun c_20 => ?_)
              · skip
                refine lv_iconst (v := nI 1) hx hb d_M_isBad_47 rfl ?_
                refine lv_goto (tgt := 52) hx hb d_M_isBad_48 (by decide) ?_
                refine lv_istore_n (lv' := [(1, .int (nI 1)), (0, .ref h0), (2, .int (nI i)), (3, .int (nI j))]) hx hb d_M_isBad_52 rfl hl (by decide) rfl (fun ls hl => ?_)
                refine r_iincN (n := 1) (lv' := [(3, .int (nI (j + 1))), (1, .int (nI 1)), (0, .ref h0), (2, .int (nI i))]) hx hb d_M_isBad_53 hl (k := 3) rfl (by decide) rfl (fun ls hl => ?_)
                refine lv_goto (tgt := 14) hx hb d_M_isBad_56 (by decide) ?_
                exact ih_14 (j + 1) 1 (by omega) (Or.inr ⟨rfl, isbM_1 hv2 c_20⟩) (by omega) _ _ _ (lv_sub hl [2, 1, 3, 0] rfl) hw
              · skip
                refine lv_aload_n hx hb d_M_isBad_23 rfl (lv_at hl 0 rfl) ?_
                refine g_M_32 hx hb hts hown hK hw 0 rfl rfl d_M_isBad_24 ?_
                refine lv_bipush (v := nI 8) hx hb d_M_isBad_27 (by decide) ?_
                refine lv_aload_n hx hb d_M_isBad_29 rfl (lv_at hl 0 rfl) ?_
                refine g_M_67 hx hb hts hown hK hw 0 rfl rfl d_M_isBad_30 ?_
                refine lv_iload_n hx hb d_M_isBad_33 rfl (lv_at hl 2 rfl) ?_
                refine r_iald hx hb hK hw 2 rfl (by omega) (by omega) d_M_isBad_34 ?_
                refine r_eq (show fl i = nI (dg b i) from by have := hg.st (i := i) (by omega); rwa [Nat.zero_add] at this) ?_
                refine r_imulN hx hb d_M_isBad_35 ?_
                refine lv_aload_n hx hb d_M_isBad_36 rfl (lv_at hl 0 rfl) ?_
                refine g_M_67 hx hb hts hown hK hw 0 rfl rfl d_M_isBad_37 ?_
                refine lv_iload_n hx hb d_M_isBad_40 rfl (lv_at hl 3 rfl) ?_
                refine r_iald hx hb hK hw 2 rfl (by omega) (by omega) d_M_isBad_41 ?_
                refine r_eq (show fl j = nI (dg b j) from by have := hg.st (i := j) (by omega); rwa [Nat.zero_add] at this) ?_
                refine r_iaddN hx hb d_M_isBad_42 ?_
                refine r_zald hx hb hK hw 1 rfl (by omega) (by omega) d_M_isBad_43 ?_
                refine lv_if_eq (tgt := 51) hx hb d_M_isBad_44 (by decide) (fun c_44 => ?_) (fun c_44 => ?_)
                · skip
                  refine lv_iconst (v := nI 0) hx hb d_M_isBad_51 rfl ?_
                  refine lv_istore_n (lv' := [(1, .int (nI 0)), (0, .ref h0), (2, .int (nI i)), (3, .int (nI j))]) hx hb d_M_isBad_52 rfl hl (by decide) rfl (fun ls hl => ?_)
                  refine r_iincN (n := 1) (lv' := [(3, .int (nI (j + 1))), (1, .int (nI 0)), (0, .ref h0), (2, .int (nI i))]) hx hb d_M_isBad_53 hl (k := 3) rfl (by decide) rfl (fun ls hl => ?_)
                  refine lv_goto (tgt := 14) hx hb d_M_isBad_56 (by decide) ?_
                  exact ih_14 (j + 1) 0 (by omega) (isbM_0 hv2 c_20 ((isb_z hB (by omega)).mp c_44)) (by omega) _ _ _ (lv_sub hl [2, 1, 3, 0] rfl) hw
                · skip
                  refine lv_iconst (v := nI 1) hx hb d_M_isBad_47 rfl ?_
                  refine lv_goto (tgt := 52) hx hb d_M_isBad_48 (by decide) ?_
                  refine lv_istore_n (lv' := [(1, .int (nI 1)), (0, .ref h0), (2, .int (nI i)), (3, .int (nI j))]) hx hb d_M_isBad_52 rfl hl (by decide) rfl (fun ls hl => ?_)
                  refine r_iincN (n := 1) (lv' := [(3, .int (nI (j + 1))), (1, .int (nI 1)), (0, .ref h0), (2, .int (nI i))]) hx hb d_M_isBad_53 hl (k := 3) rfl (by decide) rfl (fun ls hl => ?_)
                  refine lv_goto (tgt := 14) hx hb d_M_isBad_56 (by decide) ?_
                  exact ih_14 (j + 1) 1 (by omega) (Or.inr ⟨rfl, i, j, c_16, c_9, (isb_nz hB (by omega)).mp c_44⟩) (by omega) _ _ _ (lv_sub hl [2, 1, 3, 0] rfl) hw
        exact Lp14 _ 0 v (by omega) (isbM_in hv) (Nat.lt_succ_self _) _ _ _ (lv_sub hl [1, 2, 3, 0] rfl) hw
  exact Lp4 _ 0 0 (by omega) (Or.inl ⟨rfl, fun i1 j1 _ h => absurd h (Nat.not_lt_zero _)⟩) (Nat.lt_succ_self _) _ _ _ (lv_sub hl [2, 1, 0] rfl) hw
