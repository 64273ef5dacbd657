theorem comeM_kp {fa : Nat → Nat → Int32} {a b c d e f g : Nat → Int32} : ∀ i, i < 9 → va_up (va_up (va_up (va_up (va_up (va_up (va_up fa 9 a) 10 b) 11 c) 12 d) 13 e) 14 f) 15 g i = fa i := by
  intro i hi
  simp only [va_up]
  rw [if_neg (by omega), if_neg (by omega), if_neg (by omega), if_neg (by omega), if_neg (by omega), if_neg (by omega), if_neg (by omega)]
theorem comeM_sh {f g : Nat → Int32} {k m : Nat} (h : (∀ t, t < k → g t = f t) ∧ ∀ t, k < t → t ≤ m → g t = f (t - 1)) (hk : 0 < k) : (∀ t, t < k - 1 → upd g k (g (k - 1)) t = f t) ∧ ∀ t, k - 1 < t → t ≤ m → upd g k (g (k - 1)) t = f (t - 1) := by
  refine ⟨fun t ht => by rw [upd, if_neg (by omega)]; exact h.1 t (by omega), fun t a c => ?_⟩
  unfold upd
  by_cases he : t = k
  · rw [if_pos he, he]; exact h.1 (k - 1) (by omega)
  · rw [if_neg he]; exact h.2 t (by omega) c
theorem comeM_row {f g : Nat → Int32} {b : Wh} {m k : Nat} (h : (∀ i, i < k → g (12 * m + i) = nI (dg b i)) ∧ ∀ p, p < 12 * m → g p = f p) : (∀ i, i < k + 1 → upd g (12 * m + k) (nI (dg b k)) (12 * m + i) = nI (dg b i)) ∧ ∀ p, p < 12 * m → upd g (12 * m + k) (nI (dg b k)) p = f p := by
  refine ⟨fun i hi => ?_, fun p hp => by rw [upd, if_neg (by omega)]; exact h.2 p hp⟩
  unfold upd
  by_cases he : i = k
  · rw [if_pos (by omega), he]
  · rw [if_neg (by omega)]; exact h.1 i (by omega)
theorem comeM_f {fr : Int32} {m : Nat} (h : fr = -1 ∨ ∃ i, i < m ∧ fr = nI i) (hm : m < 100000) (hc : ¬ 0 ≤ fr) : fr = -1 := by
  rcases h with h | ⟨i, hi, h⟩
  · exact h
  · rw [h] at hc; exact absurd (nI_pos' (by omega)) hc
theorem comeM_g {fr : Int32} {m : Nat} (h : fr = -1 ∨ ∃ i, i < m ∧ fr = nI i) (hc : 0 ≤ fr) : ∃ i, i < m ∧ fr = nI i := by
  rcases h with h | h
  · rw [h] at hc; exact absurd hc (by decide)
  · exact h
theorem comeM_b1 {n : Nat} {B : Nat → Bool} {w : Wh} {ps : List (List Nat)} {r : Int32} (hs : SymB B) (h0 : 0 < ps.length) (hp : ∀ π ∈ ps, Pm n π) (hV : Vl n w) (hn : n ≤ 4) (h : (r = nI 1 ∧ BadM n B (frm ps w).1) ∨ (r = nI 0 ∧ ¬ BadM n B (frm ps w).1)) (hr : ¬ r = 0) : (if badB n B w = true then 1 else 0) = 1 := by
  obtain ⟨π, h1, h2⟩ := frm_in (w := w) h0
  rcases h with ⟨-, h⟩ | ⟨h, -⟩
  · rw [h2] at h
    rw [if_pos (badB_iff.mpr ((bad_num hs (hp π h1) hV hn).mp h))]
  · exact absurd (h.trans nI_0) hr
theorem comeM_b0 {n : Nat} {B : Nat → Bool} {w : Wh} {ps : List (List Nat)} {r : Int32} (hs : SymB B) (h0 : 0 < ps.length) (hp : ∀ π ∈ ps, Pm n π) (hV : Vl n w) (hn : n ≤ 4) (h : (r = nI 1 ∧ BadM n B (frm ps w).1) ∨ (r = nI 0 ∧ ¬ BadM n B (frm ps w).1)) (hr : r = 0) : (if badB n B w = true then 1 else 0) = 0 := by
  obtain ⟨π, h1, h2⟩ := frm_in (w := w) h0
  rcases h with ⟨h, -⟩ | ⟨-, h⟩
  · exact absurd (h.symm.trans hr) (by decide)
  · rw [h2] at h
    rw [if_neg (fun z => h ((bad_num hs (hp π h1) hV hn).mpr (badB_iff.mp z)))]
theorem comeM_post {ps : List (List Nat)} {n lo lv k kw : Nat} {E : List Ent} {S : List Nat} {w : Wh} {fr ru : Int32} {fa : Nat → Nat → Int32} {fd fw : Nat → Int32} {od : Nat → Nat}
    (hMR : ∀ k, k < E.length → Row (fa 9) (12 * k) (E.getD k eD).1 ∧ fa 11 k = nI (E.getD k eD).2.2.2.1 ∧ fa 12 k = (E.getD k eD).2.1 ∧ fa 13 k = (E.getD k eD).2.2.1 ∧ fa 15 k = nI (E.getD k eD).2.2.2.2 ∧ fa 14 k = (if k < S.length then nI (S.getD k 0) else -1))
    (hod1 : ∀ t, t < E.length → fa 10 t = nI (od t) ∧ od t < E.length) (hod2 : ∀ t t1, t < t1 → t1 < E.length → pk (E.getD (od t) eD).1 < pk (E.getD (od t1) eD).1) (hod3 : ∀ k, k < E.length → ∃ t, t < E.length ∧ od t = k) (hod : ODat E od (frm ps w).1 lo) (hnin : (frm ps w).1 ∉ E.map (fun e => e.1)) (hVE : ∀ e ∈ E, Vl n e.1) (hVb : Vl n (frm ps w).1)
    (hfd : (∀ t, t < k → fd t = fa 10 t) ∧ ∀ t, k < t → t ≤ E.length → fd t = fa 10 (t - 1)) (hfw : (∀ i, i < kw → fw (12 * E.length + i) = nI (dg (frm ps w).1 i)) ∧ ∀ p, p < 12 * E.length → fw p = fa 9 p) (hlv : lv = lvA E fr) (hk : k = lo) (hkw : kw = 5 + (frm ps w).1.2.length) (hSE : S.length ≤ E.length) :
    MR (E ++ [((frm ps w).1, fr, ru, lvA E fr, (frm ps w).2)]) S (va_up (va_up (va_up (va_up (va_up (va_up (va_up fa 9 fw) 10 (upd fd lo (nI E.length))) 11 (upd (fa 11) E.length (nI lv))) 12 (upd (fa 12) E.length fr)) 13 (upd (fa 13) E.length ru)) 14 (upd (fa 14) E.length (-1))) 15 (upd (fa 15) E.length (nI (frm ps w).2))) := by
  subst hlv; subst hk; subst hkw
  refine ⟨fun i hi => ?_, ?_⟩
  · rw [List.length_append, List.length_singleton] at hi
    show Row fw (12 * i) _ ∧ upd (fa 11) E.length (nI (lvA E fr)) i = _ ∧ upd (fa 12) E.length fr i = _ ∧ upd (fa 13) E.length ru i = _ ∧ upd (fa 15) E.length (nI (frm ps w).2) i = _ ∧ upd (fa 14) E.length (-1) i = _
    by_cases he : i = E.length
    · subst he
      rw [getD_snoc_eq, if_neg (by omega)]
      exact ⟨fun q hq => hfw.1 q hq, by simp [upd], by simp [upd], by simp [upd], by simp [upd], by simp [upd]⟩
    · rw [getD_snoc_lt (by omega)]
      obtain ⟨a, c⟩ := hMR i (by omega)
      simp only [upd, if_neg he]
      refine ⟨fun q hq => ?_, c⟩
      have h7 := (hVE _ (getD_memE (show i < E.length by omega))).2.2.2.1
      rw [hfw.2 _ (by omega)]
      exact a q hq
  · show OD _ (upd fd k (nI E.length))
    refine OD.snoc hod1 hod2 hod3 hod (fun t ht z => ?_) (fun t ht => ?_)
    · exact hnin (List.mem_map.mpr ⟨_, getD_memE ht, pk_inj (hVE _ (getD_memE ht)) hVb z⟩)
    · unfold upd
      by_cases c1 : t < k
      · rw [if_neg (by omega), if_pos c1]; exact hfd.1 t c1
      · rw [if_neg c1]
        by_cases c2 : t = k
        · rw [if_pos c2, if_pos c2]
        · rw [if_neg c2, if_neg c2]; exact hfd.2 t (by omega) (by omega)
set_option maxHeartbeats 4000000 in
set_option maxRecDepth 100000 in
theorem c_M_come (zl : Launch) (G : GG) (am : Nat → Nat) (fa : Nat → Nat → Int32) (zv : Nat → Value) (th bw : Int32) (n room Sx Kx : Nat) (ps pm : List (List Nat)) (B : Nat → Bool) (rs : List Rl) (E : List Ent) (S : List Nat) (md ag ov1 lo : Nat) (od : Nat → Nat) (w : Wh) (fr ru : Int32) (hn4 : n ≤ 4) (hV : Vl n w) (hs : SymB B) (hB : ∀ i, i < 64 → fa 7 i = if B i = true then nI 1 else nI 0) (h00 : 0 < ps.length) (hPm : ∀ π ∈ ps, Pm n π) (hE : EOK n room E) (hlt : E.length < room) (hSE : S.length ≤ E.length) (hMR : ∀ k, k < E.length → Row (fa 9) (12 * k) (E.getD k eD).1 ∧ fa 11 k = nI (E.getD k eD).2.2.2.1 ∧ fa 12 k = (E.getD k eD).2.1 ∧ fa 13 k = (E.getD k eD).2.2.1 ∧ fa 15 k = nI (E.getD k eD).2.2.2.2 ∧ fa 14 k = (if k < S.length then nI (S.getD k 0) else -1)) (hod1 : ∀ t, t < E.length → fa 10 t = nI (od t) ∧ od t < E.length) (hod2 : ∀ t t1, t < t1 → t1 < E.length → pk (E.getD (od t) eD).1 < pk (E.getD (od t1) eD).1) (hod3 : ∀ k, k < E.length → ∃ t, t < E.length ∧ od t = k) (hod : ODat E od (frm ps w).1 lo) (hlr : Row (fa 18) 0 (frm ps w).1) (hnin : (frm ps w).1 ∉ E.map (fun e => e.1)) (hfr : fr = -1 ∨ ∃ i, i < E.length ∧ fr = nI i) (hov : (if badB n B w = true then 1 else 0) = ov1) : Ctr (S := (Nat → Nat → Int32) × Int32) vV zl y_M_come b_M_come 4 (Option.none : Option Jvm.ClassFile.FieldType) 1 0 0 G [.ref (am 0), .int fr, .int ru] ([oM (am 0) [.int th, .int (nI n), .int (nI room), .int (nI Sx), .int (nI Kx), .int (nI rs.length), .ref (am 1), .ref (am 2), .ref (am 3), .ref (am 4), .ref (am 5), .ref (am 6), .ref (am 7), .ref (am 8), .int (nI pm.length), .int (nI E.length), .int (nI S.length), .int (nI md), .int (nI ag), .int (nI (deadN S S.length)), .int (nI 0), .int bw, .ref (am 9), .ref (am 10), .ref (am 11), .ref (am 12), .ref (am 13), .ref (am 14), .ref (am 15), .ref (am 16), .ref (am 17), .ref (am 18), .int (nI ((frm ps w).2)), .int (nI lo)], aI G (am 1) 40 (fa 1), aI G (am 2) 40 (fa 2), aI G (am 3) 40 (fa 3), aI G (am 4) 40 (fa 4), aI G (am 5) 160 (fa 5), aI G (am 6) 160 (fa 6), aZ G (am 7) 64 (fa 7), aI G (am 8) 96 (fa 8), aI G (am 9) 98304 (fa 9), aI G (am 10) 8192 (fa 10), aI G (am 11) 8192 (fa 11), aI G (am 12) 8192 (fa 12), aI G (am 13) 8192 (fa 13), aI G (am 14) 8192 (fa 14), aI G (am 15) 8192 (fa 15), aI G (am 16) 12 (fa 16), aI G (am 17) 12 (fa 17), aI G (am 18) 12 (fa 18)]) (fun _ u => MR (E ++ [((frm ps w).1, fr, ru, lvA E fr, (frm ps w).2)]) S u.1 ∧ (ov1 = 1 → u.2 = nI ((E ++ [((frm ps w).1, fr, ru, lvA E fr, (frm ps w).2)]).length - 1)) ∧ ∀ i, i < 9 → u.1 i = fa i) (fun u => [oM (am 0) [.int th, .int (nI n), .int (nI room), .int (nI Sx), .int (nI Kx), .int (nI rs.length), .ref (am 1), .ref (am 2), .ref (am 3), .ref (am 4), .ref (am 5), .ref (am 6), .ref (am 7), .ref (am 8), .int (nI pm.length), .int (nI ((E ++ [((frm ps w).1, fr, ru, lvA E fr, (frm ps w).2)]).length)), .int (nI S.length), .int (nI md), .int (nI ag), .int (nI (deadN S S.length)), .int (anF ov1), .int u.2, .ref (am 9), .ref (am 10), .ref (am 11), .ref (am 12), .ref (am 13), .ref (am 14), .ref (am 15), .ref (am 16), .ref (am 17), .ref (am 18), .int (nI ((frm ps w).2)), .int (nI lo)], aI G (am 1) 40 (u.1 1), aI G (am 2) 40 (u.1 2), aI G (am 3) 40 (u.1 3), aI G (am 4) 40 (u.1 4), aI G (am 5) 160 (u.1 5), aI G (am 6) 160 (u.1 6), aZ G (am 7) 64 (u.1 7), aI G (am 8) 96 (u.1 8), aI G (am 9) 98304 (u.1 9), aI G (am 10) 8192 (u.1 10), aI G (am 11) 8192 (u.1 11), aI G (am 12) 8192 (u.1 12), aI G (am 13) 8192 (u.1 13), aI G (am 14) 8192 (u.1 14), aI G (am 15) 8192 (u.1 15), aI G (am 16) 12 (u.1 16), aI G (am 17) 12 (u.1 17), aI G (am 18) 12 (u.1 18)]) := by
  refine Ctr.start (by decide) (Nat.le_of_ble_eq_true rfl) ?_
  intro zp ze zs zm below meth zc A ls C0 hin hK hA hl hw
  obtain ⟨hx, hb, hr, hlk, hml, hown, hts⟩ := C0
  obtain ⟨R, hRR⟩ : ∃ R : Room, R = rmL 1 0 0 := ⟨_, rfl⟩
  have hRf : R.frames = 1 := by rw [hRR]
  have hRl : R.locals = 64 * 1 := by rw [hRR]
  have hRc : R.cells = 0 := by rw [hRR]
  have hRs : R.slots = 0 := by rw [hRR]
  rw [← hRR]; clear hRR
  generalize hQ : MQ below _ _ zs _ _ A = Q
  generalize hAr : List.toArray _ = args at hts hQ ⊢
  replace hl : lv_has ls 4 [(0, .ref (am 0)), (1, .int fr), (2, .int ru)] := hl
  obtain ⟨H, eH⟩ : ∃ H : Heap, H = zs.heap := ⟨_, rfl⟩
  obtain ⟨locs, eL⟩ : ∃ l0 : List Loc, l0 = [] := ⟨_, rfl⟩
  rw [← eH, ← eL] at hw ⊢; clear eH eL
  have hE8 := hE.2.2
  have hVb := frm_ok h00 hPm hV hn4 (w := w)
  have hlb := hVb.2.2.2.1
  have hEl : (E ++ [((frm ps w).1, fr, ru, lvA E fr, (frm ps w).2)]).length = E.length + 1 := by rw [List.length_append]; rfl
  refine lv_aload_n hx hb d_M_come_0 rfl (lv_at hl 0 rfl) ?_
  refine g_M_82 hx hb hts hown hK hw 0 rfl rfl d_M_come_1 ?_
  refine lv_istore_n (lv' := [(3, .int (nI E.length)), (0, .ref (am 0)), (1, .int fr), (2, .int ru)]) hx hb d_M_come_4 rfl hl (by decide) rfl (fun ls hl => ?_)
  have Lp5 : ∀ N_5 : Nat, ∀ (k : Nat) (fd : Nat → Int32), (lo ≤ k ∧ k ≤ E.length) → ((∀ t, t < k → fd t = fa 10 t) ∧ ∀ t, k < t → t ≤ E.length → fd t = fa 10 (t - 1)) → k < N_5 → ∀ (H : Heap) (locs : List Loc) (ls : Array Slot), lv_has ls 4 [(0, .ref (am 0)), (1, .int fr), (2, .int ru), (3, .int (nI k))] → WW G A zs ([oM (am 0) [.int th, .int (nI n), .int (nI room), .int (nI Sx), .int (nI Kx), .int (nI rs.length), .ref (am 1), .ref (am 2), .ref (am 3), .ref (am 4), .ref (am 5), .ref (am 6), .ref (am 7), .ref (am 8), .int (nI pm.length), .int (nI E.length), .int (nI S.length), .int (nI md), .int (nI ag), .int (nI (deadN S S.length)), .int (nI 0), .int bw, .ref (am 9), .ref (am 10), .ref (am 11), .ref (am 12), .ref (am 13), .ref (am 14), .ref (am 15), .ref (am 16), .ref (am 17), .ref (am 18), .int (nI ((frm ps w).2)), .int (nI lo)], aI G (am 1) 40 (fa 1), aI G (am 2) 40 (fa 2), aI G (am 3) 40 (fa 3), aI G (am 4) 40 (fa 4), aI G (am 5) 160 (fa 5), aI G (am 6) 160 (fa 6), aZ G (am 7) 64 (fa 7), aI G (am 8) 96 (fa 8), aI G (am 9) 98304 (fa 9), aI G (am 10) 8192 fd, aI G (am 11) 8192 (fa 11), aI G (am 12) 8192 (fa 12), aI G (am 13) 8192 (fa 13), aI G (am 14) 8192 (fa 14), aI G (am 15) 8192 (fa 15), aI G (am 16) 12 (fa 16), aI G (am 17) 12 (fa 17), aI G (am 18) 12 (fa 18)]) H locs → W zp zl ze R zs zm args below meth zc H locs 0 0 Q (F0 zm 5 ls []) := by
    intro N_5
    induction N_5 with
    | zero => intros; omega
    | succ N_5 ih_5 =>
      intro k fd hk hfd hN_5 H locs ls hl hw
      refine lv_iload_n hx hb d_M_come_5 rfl (lv_at hl 3 rfl) ?_
      refine lv_aload_n hx hb d_M_come_6 rfl (lv_at hl 0 rfl) ?_
      refine g_M_139 hx hb hts hown hK hw 0 rfl rfl d_M_come_7 ?_
      refine r_icmp_le (tgt := 33) hx hb (by omega) (by omega) d_M_come_10 (by decide) (fun c_10 => ?_) (fun c_10 => ?_)
      · skip
        refine lv_aload_n hx hb d_M_come_33 rfl (lv_at hl 0 rfl) ?_
        refine g_M_43 hx hb hts hown hK hw 0 rfl rfl d_M_come_34 ?_
        refine lv_aload_n hx hb d_M_come_37 rfl (lv_at hl 0 rfl) ?_
        refine g_M_139 hx hb hts hown hK hw 0 rfl rfl d_M_come_38 ?_
        refine lv_aload_n hx hb d_M_come_41 rfl (lv_at hl 0 rfl) ?_
        refine g_M_82 hx hb hts hown hK hw 0 rfl rfl d_M_come_42 ?_
        refine r_iast hx hb hK hw 10 rfl (by omega) (by omega) d_M_come_45 (fun H locs hw1 => ?_)
        replace hw : WW G A zs ([oM (am 0) [.int th, .int (nI n), .int (nI room), .int (nI Sx), .int (nI Kx), .int (nI rs.length), .ref (am 1), .ref (am 2), .ref (am 3), .ref (am 4), .ref (am 5), .ref (am 6), .ref (am 7), .ref (am 8), .int (nI pm.length), .int (nI E.length), .int (nI S.length), .int (nI md), .int (nI ag), .int (nI (deadN S S.length)), .int (nI 0), .int bw, .ref (am 9), .ref (am 10), .ref (am 11), .ref (am 12), .ref (am 13), .ref (am 14), .ref (am 15), .ref (am 16), .ref (am 17), .ref (am 18), .int (nI ((frm ps w).2)), .int (nI lo)], aI G (am 1) 40 (fa 1), aI G (am 2) 40 (fa 2), aI G (am 3) 40 (fa 3), aI G (am 4) 40 (fa 4), aI G (am 5) 160 (fa 5), aI G (am 6) 160 (fa 6), aZ G (am 7) 64 (fa 7), aI G (am 8) 96 (fa 8), aI G (am 9) 98304 (fa 9), aI G (am 10) 8192 (upd fd lo (nI E.length)), aI G (am 11) 8192 (fa 11), aI G (am 12) 8192 (fa 12), aI G (am 13) 8192 (fa 13), aI G (am 14) 8192 (fa 14), aI G (am 15) 8192 (fa 15), aI G (am 16) 12 (fa 16), aI G (am 17) 12 (fa 17), aI G (am 18) 12 (fa 18)]) H locs := hw1
        refine lv_iconst (v := nI 0) hx hb d_M_come_46 rfl ?_
        refine lv_istore_n (lv' := [(3, .int (nI 0)), (0, .ref (am 0)), (1, .int fr), (2, .int ru)]) hx hb d_M_come_47 rfl hl (by decide) rfl (fun ls hl => ?_)
        have Lp48 : ∀ N_48 : Nat, ∀ (k : Nat) (fw : Nat → Int32), (k ≤ 5 + (frm ps w).1.2.length) → ((∀ i, i < k → fw (12 * E.length + i) = nI (dg (frm ps w).1 i)) ∧ ∀ p, p < 12 * E.length → fw p = fa 9 p) → 5 + (frm ps w).1.2.length - k < N_48 → ∀ (H : Heap) (locs : List Loc) (ls : Array Slot), lv_has ls 4 [(0, .ref (am 0)), (1, .int fr), (2, .int ru), (3, .int (nI k))] → WW G A zs ([oM (am 0) [.int th, .int (nI n), .int (nI room), .int (nI Sx), .int (nI Kx), .int (nI rs.length), .ref (am 1), .ref (am 2), .ref (am 3), .ref (am 4), .ref (am 5), .ref (am 6), .ref (am 7), .ref (am 8), .int (nI pm.length), .int (nI E.length), .int (nI S.length), .int (nI md), .int (nI ag), .int (nI (deadN S S.length)), .int (nI 0), .int bw, .ref (am 9), .ref (am 10), .ref (am 11), .ref (am 12), .ref (am 13), .ref (am 14), .ref (am 15), .ref (am 16), .ref (am 17), .ref (am 18), .int (nI ((frm ps w).2)), .int (nI lo)], aI G (am 1) 40 (fa 1), aI G (am 2) 40 (fa 2), aI G (am 3) 40 (fa 3), aI G (am 4) 40 (fa 4), aI G (am 5) 160 (fa 5), aI G (am 6) 160 (fa 6), aZ G (am 7) 64 (fa 7), aI G (am 8) 96 (fa 8), aI G (am 9) 98304 fw, aI G (am 10) 8192 (upd fd lo (nI E.length)), aI G (am 11) 8192 (fa 11), aI G (am 12) 8192 (fa 12), aI G (am 13) 8192 (fa 13), aI G (am 14) 8192 (fa 14), aI G (am 15) 8192 (fa 15), aI G (am 16) 12 (fa 16), aI G (am 17) 12 (fa 17), aI G (am 18) 12 (fa 18)]) H locs → W zp zl ze R zs zm args below meth zc H locs 0 0 Q (F0 zm 48 ls []) := by
          intro N_48
          induction N_48 with
          | zero => intros; omega
          | succ N_48 ih_48 =>
            intro k fw hk2 hfw hN_48 H locs ls hl hw
            refine lv_iload_n hx hb d_M_come_48 rfl (lv_at hl 3 rfl) ?_
            refine lv_iconst (v := nI 5) hx hb d_M_come_49 rfl ?_
            refine lv_aload_n hx hb d_M_come_50 rfl (lv_at hl 0 rfl) ?_
            refine g_M_67 hx hb hts hown hK hw 0 rfl rfl d_M_come_51 ?_
            refine lv_iconst (v := nI 4) hx hb d_M_come_54 rfl ?_
            refine r_iald hx hb hK hw 18 rfl (by omega) (by omega) d_M_come_55 ?_
            refine r_eq (show (fa 18) 4 = nI ((frm ps w).1.2.length) from hlr.n) ?_
            refine r_iaddN hx hb d_M_come_56 ?_
            refine r_icmp_ge (tgt := 86) hx hb (by omega) (by omega) d_M_come_57 (by decide) (fun c_57 => ?_) (fun c_57 => ?_)
            · skip
              have Lp110 : ∀ (lv : Nat), (lv = lvA E fr) → ∀ (H : Heap) (locs : List Loc) (ls : Array Slot), lv_has ls 4 [(0, .ref (am 0)), (1, .int fr), (2, .int ru)] → WW G A zs ([oM (am 0) [.int th, .int (nI n), .int (nI room), .int (nI Sx), .int (nI Kx), .int (nI rs.length), .ref (am 1), .ref (am 2), .ref (am 3), .ref (am 4), .ref (am 5), .ref (am 6), .ref (am 7), .ref (am 8), .int (nI pm.length), .int (nI E.length), .int (nI S.length), .int (nI md), .int (nI ag), .int (nI (deadN S S.length)), .int (nI 0), .int bw, .ref (am 9), .ref (am 10), .ref (am 11), .ref (am 12), .ref (am 13), .ref (am 14), .ref (am 15), .ref (am 16), .ref (am 17), .ref (am 18), .int (nI ((frm ps w).2)), .int (nI lo)], aI G (am 1) 40 (fa 1), aI G (am 2) 40 (fa 2), aI G (am 3) 40 (fa 3), aI G (am 4) 40 (fa 4), aI G (am 5) 160 (fa 5), aI G (am 6) 160 (fa 6), aZ G (am 7) 64 (fa 7), aI G (am 8) 96 (fa 8), aI G (am 9) 98304 fw, aI G (am 10) 8192 (upd fd lo (nI E.length)), aI G (am 11) 8192 (fa 11), aI G (am 12) 8192 (fa 12), aI G (am 13) 8192 (fa 13), aI G (am 14) 8192 (fa 14), aI G (am 15) 8192 (fa 15), aI G (am 16) 12 (fa 16), aI G (am 17) 12 (fa 17), aI G (am 18) 12 (fa 18)]) H locs → W zp zl ze R zs zm args below meth zc H locs 0 0 Q (F0 zm 110 ls [.int (nI lv), .int (nI E.length), .ref (am 11)]) := by
                intro lv hlv H locs ls hl hw
                refine r_iast hx hb hK hw 11 rfl (by omega) (by omega) d_M_come_110 (fun H locs hw1 => ?_)
                replace hw : WW G A zs ([oM (am 0) [.int th, .int (nI n), .int (nI room), .int (nI Sx), .int (nI Kx), .int (nI rs.length), .ref (am 1), .ref (am 2), .ref (am 3), .ref (am 4), .ref (am 5), .ref (am 6), .ref (am 7), .ref (am 8), .int (nI pm.length), .int (nI E.length), .int (nI S.length), .int (nI md), .int (nI ag), .int (nI (deadN S S.length)), .int (nI 0), .int bw, .ref (am 9), .ref (am 10), .ref (am 11), .ref (am 12), .ref (am 13), .ref (am 14), .ref (am 15), .ref (am 16), .ref (am 17), .ref (am 18), .int (nI ((frm ps w).2)), .int (nI lo)], aI G (am 1) 40 (fa 1), aI G (am 2) 40 (fa 2), aI G (am 3) 40 (fa 3), aI G (am 4) 40 (fa 4), aI G (am 5) 160 (fa 5), aI G (am 6) 160 (fa 6), aZ G (am 7) 64 (fa 7), aI G (am 8) 96 (fa 8), aI G (am 9) 98304 fw, aI G (am 10) 8192 (upd fd lo (nI E.length)), aI G (am 11) 8192 (upd (fa 11) E.length (nI lv)), aI G (am 12) 8192 (fa 12), aI G (am 13) 8192 (fa 13), aI G (am 14) 8192 (fa 14), aI G (am 15) 8192 (fa 15), aI G (am 16) 12 (fa 16), aI G (am 17) 12 (fa 17), aI G (am 18) 12 (fa 18)]) H locs := hw1
                refine lv_aload_n hx hb d_M_come_111 rfl (lv_at hl 0 rfl) ?_
                refine g_M_49 hx hb hts hown hK hw 0 rfl rfl d_M_come_112 ?_
                refine lv_aload_n hx hb d_M_come_115 rfl (lv_at hl 0 rfl) ?_
                refine g_M_82 hx hb hts hown hK hw 0 rfl rfl d_M_come_116 ?_
                refine lv_iload_n hx hb d_M_come_119 rfl (lv_at hl 1 rfl) ?_
                refine r_iast hx hb hK hw 12 rfl (by omega) (by omega) d_M_come_120 (fun H locs hw1 => ?_)
                replace hw : WW G A zs ([oM (am 0) [.int th, .int (nI n), .int (nI room), .int (nI Sx), .int (nI Kx), .int (nI rs.length), .ref (am 1), .ref (am 2), .ref (am 3), .ref (am 4), .ref (am 5), .ref (am 6), .ref (am 7), .ref (am 8), .int (nI pm.length), .int (nI E.length), .int (nI S.length), .int (nI md), .int (nI ag), .int (nI (deadN S S.length)), .int (nI 0), .int bw, .ref (am 9), .ref (am 10), .ref (am 11), .ref (am 12), .ref (am 13), .ref (am 14), .ref (am 15), .ref (am 16), .ref (am 17), .ref (am 18), .int (nI ((frm ps w).2)), .int (nI lo)], aI G (am 1) 40 (fa 1), aI G (am 2) 40 (fa 2), aI G (am 3) 40 (fa 3), aI G (am 4) 40 (fa 4), aI G (am 5) 160 (fa 5), aI G (am 6) 160 (fa 6), aZ G (am 7) 64 (fa 7), aI G (am 8) 96 (fa 8), aI G (am 9) 98304 fw, aI G (am 10) 8192 (upd fd lo (nI E.length)), aI G (am 11) 8192 (upd (fa 11) E.length (nI lv)), aI G (am 12) 8192 (upd (fa 12) E.length fr), aI G (am 13) 8192 (fa 13), aI G (am 14) 8192 (fa 14), aI G (am 15) 8192 (fa 15), aI G (am 16) 12 (fa 16), aI G (am 17) 12 (fa 17), aI G (am 18) 12 (fa 18)]) H locs := hw1
                refine lv_aload_n hx hb d_M_come_121 rfl (lv_at hl 0 rfl) ?_
                refine g_M_52 hx hb hts hown hK hw 0 rfl rfl d_M_come_122 ?_
                refine lv_aload_n hx hb d_M_come_125 rfl (lv_at hl 0 rfl) ?_
                refine g_M_82 hx hb hts hown hK hw 0 rfl rfl d_M_come_126 ?_
                refine lv_iload_n hx hb d_M_come_129 rfl (lv_at hl 2 rfl) ?_
                refine r_iast hx hb hK hw 13 rfl (by omega) (by omega) d_M_come_130 (fun H locs hw1 => ?_)
                replace hw : WW G A zs ([oM (am 0) [.int th, .int (nI n), .int (nI room), .int (nI Sx), .int (nI Kx), .int (nI rs.length), .ref (am 1), .ref (am 2), .ref (am 3), .ref (am 4), .ref (am 5), .ref (am 6), .ref (am 7), .ref (am 8), .int (nI pm.length), .int (nI E.length), .int (nI S.length), .int (nI md), .int (nI ag), .int (nI (deadN S S.length)), .int (nI 0), .int bw, .ref (am 9), .ref (am 10), .ref (am 11), .ref (am 12), .ref (am 13), .ref (am 14), .ref (am 15), .ref (am 16), .ref (am 17), .ref (am 18), .int (nI ((frm ps w).2)), .int (nI lo)], aI G (am 1) 40 (fa 1), aI G (am 2) 40 (fa 2), aI G (am 3) 40 (fa 3), aI G (am 4) 40 (fa 4), aI G (am 5) 160 (fa 5), aI G (am 6) 160 (fa 6), aZ G (am 7) 64 (fa 7), aI G (am 8) 96 (fa 8), aI G (am 9) 98304 fw, aI G (am 10) 8192 (upd fd lo (nI E.length)), aI G (am 11) 8192 (upd (fa 11) E.length (nI lv)), aI G (am 12) 8192 (upd (fa 12) E.length fr), aI G (am 13) 8192 (upd (fa 13) E.length ru), aI G (am 14) 8192 (fa 14), aI G (am 15) 8192 (fa 15), aI G (am 16) 12 (fa 16), aI G (am 17) 12 (fa 17), aI G (am 18) 12 (fa 18)]) H locs := hw1
                refine lv_aload_n hx hb d_M_come_131 rfl (lv_at hl 0 rfl) ?_
                refine g_M_55 hx hb hts hown hK hw 0 rfl rfl d_M_come_132 ?_
                refine lv_aload_n hx hb d_M_come_135 rfl (lv_at hl 0 rfl) ?_
                refine g_M_82 hx hb hts hown hK hw 0 rfl rfl d_M_come_136 ?_
                refine lv_iconst (v := -1) hx hb d_M_come_139 (by decide) ?_
                refine r_iast hx hb hK hw 14 rfl (by omega) (by omega) d_M_come_140 (fun H locs hw1 => ?_)
                replace hw : WW G A zs ([oM (am 0) [.int th, .int (nI n), .int (nI room), .int (nI Sx), .int (nI Kx), .int (nI rs.length), .ref (am 1), .ref (am 2), .ref (am 3), .ref (am 4), .ref (am 5), .ref (am 6), .ref (am 7), .ref (am 8), .int (nI pm.length), .int (nI E.length), .int (nI S.length), .int (nI md), .int (nI ag), .int (nI (deadN S S.length)), .int (nI 0), .int bw, .ref (am 9), .ref (am 10), .ref (am 11), .ref (am 12), .ref (am 13), .ref (am 14), .ref (am 15), .ref (am 16), .ref (am 17), .ref (am 18), .int (nI ((frm ps w).2)), .int (nI lo)], aI G (am 1) 40 (fa 1), aI G (am 2) 40 (fa 2), aI G (am 3) 40 (fa 3), aI G (am 4) 40 (fa 4), aI G (am 5) 160 (fa 5), aI G (am 6) 160 (fa 6), aZ G (am 7) 64 (fa 7), aI G (am 8) 96 (fa 8), aI G (am 9) 98304 fw, aI G (am 10) 8192 (upd fd lo (nI E.length)), aI G (am 11) 8192 (upd (fa 11) E.length (nI lv)), aI G (am 12) 8192 (upd (fa 12) E.length fr), aI G (am 13) 8192 (upd (fa 13) E.length ru), aI G (am 14) 8192 (upd (fa 14) E.length (-1)), aI G (am 15) 8192 (fa 15), aI G (am 16) 12 (fa 16), aI G (am 17) 12 (fa 17), aI G (am 18) 12 (fa 18)]) H locs := hw1
                refine lv_aload_n hx hb d_M_come_141 rfl (lv_at hl 0 rfl) ?_
                refine g_M_58 hx hb hts hown hK hw 0 rfl rfl d_M_come_142 ?_
                refine lv_aload_n hx hb d_M_come_145 rfl (lv_at hl 0 rfl) ?_
                refine g_M_82 hx hb hts hown hK hw 0 rfl rfl d_M_come_146 ?_
                refine lv_aload_n hx hb d_M_come_149 rfl (lv_at hl 0 rfl) ?_
                refine g_M_124 hx hb hts hown hK hw 0 rfl rfl d_M_come_150 ?_
                refine r_iast hx hb hK hw 15 rfl (by omega) (by omega) d_M_come_153 (fun H locs hw1 => ?_)
                replace hw : WW G A zs ([oM (am 0) [.int th, .int (nI n), .int (nI room), .int (nI Sx), .int (nI Kx), .int (nI rs.length), .ref (am 1), .ref (am 2), .ref (am 3), .ref (am 4), .ref (am 5), .ref (am 6), .ref (am 7), .ref (am 8), .int (nI pm.length), .int (nI E.length), .int (nI S.length), .int (nI md), .int (nI ag), .int (nI (deadN S S.length)), .int (nI 0), .int bw, .ref (am 9), .ref (am 10), .ref (am 11), .ref (am 12), .ref (am 13), .ref (am 14), .ref (am 15), .ref (am 16), .ref (am 17), .ref (am 18), .int (nI ((frm ps w).2)), .int (nI lo)], aI G (am 1) 40 (fa 1), aI G (am 2) 40 (fa 2), aI G (am 3) 40 (fa 3), aI G (am 4) 40 (fa 4), aI G (am 5) 160 (fa 5), aI G (am 6) 160 (fa 6), aZ G (am 7) 64 (fa 7), aI G (am 8) 96 (fa 8), aI G (am 9) 98304 fw, aI G (am 10) 8192 (upd fd lo (nI E.length)), aI G (am 11) 8192 (upd (fa 11) E.length (nI lv)), aI G (am 12) 8192 (upd (fa 12) E.length fr), aI G (am 13) 8192 (upd (fa 13) E.length ru), aI G (am 14) 8192 (upd (fa 14) E.length (-1)), aI G (am 15) 8192 (upd (fa 15) E.length (nI ((frm ps w).2))), aI G (am 16) 12 (fa 16), aI G (am 17) 12 (fa 17), aI G (am 18) 12 (fa 18)]) H locs := hw1
                refine lv_aload_n hx hb d_M_come_154 rfl (lv_at hl 0 rfl) ?_
                refine xV_i (rest := []) (As := []) hx hb hml hown hts hK hA hw k_M_142 (c_M_isBad zl G (am 0) (am 7) (am 18) n (.int th) (.int (nI room)) (.int (nI Sx)) (.int (nI Kx)) (.int (nI rs.length)) (.ref (am 1)) (.ref (am 2)) (.ref (am 3)) (.ref (am 4)) (.ref (am 5)) (.ref (am 6)) (.ref (am 8)) (.int (nI pm.length)) (.int (nI E.length)) (.int (nI S.length)) (.int (nI md)) (.int (nI ag)) (.int (nI (deadN S S.length))) (.int (nI 0)) (.int bw) (.ref (am 9)) (.ref (am 10)) (.ref (am 11)) (.ref (am 12)) (.ref (am 13)) (.ref (am 14)) (.ref (am 15)) (.ref (am 16)) (.ref (am 17)) (.int (nI ((frm ps w).2))) (.int (nI lo)) (fa 7) (fa 18) B (frm ps w).1 hn4 hVb hlr hB) ([0, 7, 18]) rfl rfl (fun _ => Nat.le_of_ble_eq_true rfl) 0 rfl rfl rfl rfl hl.1 (Nat.le_of_ble_eq_true rfl) ⟨(by omega), (by omega)⟩ ⟨(by omega), (by omega)⟩ d_M_come_155 (fun r u H locs hp hw1 => ?_)
                refine W.cs (cells' := 0) (slots' := 0) rfl rfl ?_
                replace hw : WW G A zs ([oM (am 0) [.int th, .int (nI n), .int (nI room), .int (nI Sx), .int (nI Kx), .int (nI rs.length), .ref (am 1), .ref (am 2), .ref (am 3), .ref (am 4), .ref (am 5), .ref (am 6), .ref (am 7), .ref (am 8), .int (nI pm.length), .int (nI E.length), .int (nI S.length), .int (nI md), .int (nI ag), .int (nI (deadN S S.length)), .int (nI 0), .int bw, .ref (am 9), .ref (am 10), .ref (am 11), .ref (am 12), .ref (am 13), .ref (am 14), .ref (am 15), .ref (am 16), .ref (am 17), .ref (am 18), .int (nI ((frm ps w).2)), .int (nI lo)], aI G (am 1) 40 (fa 1), aI G (am 2) 40 (fa 2), aI G (am 3) 40 (fa 3), aI G (am 4) 40 (fa 4), aI G (am 5) 160 (fa 5), aI G (am 6) 160 (fa 6), aZ G (am 7) 64 (fa 7), aI G (am 8) 96 (fa 8), aI G (am 9) 98304 fw, aI G (am 10) 8192 (upd fd lo (nI E.length)), aI G (am 11) 8192 (upd (fa 11) E.length (nI lv)), aI G (am 12) 8192 (upd (fa 12) E.length fr), aI G (am 13) 8192 (upd (fa 13) E.length ru), aI G (am 14) 8192 (upd (fa 14) E.length (-1)), aI G (am 15) 8192 (upd (fa 15) E.length (nI ((frm ps w).2))), aI G (am 16) 12 (fa 16), aI G (am 17) 12 (fa 17), aI G (am 18) 12 (fa 18)]) H locs := hw1
                refine lv_if_eq (tgt := 175) hx hb d_M_come_158 (by decide) (fun c_158 => ?_) (fun c_158 => ?_)
                · skip
                  obtain rfl : ov1 = 0 := by rw [← hov]; exact comeM_b0 hs h00 hPm hV hn4 hp c_158
                  refine lv_aload_n hx hb d_M_come_175 rfl (lv_at hl 0 rfl) ?_
                  refine lv_dup hx hb d_M_come_176 rfl ?_
                  refine g_M_82 hx hb hts hown hK hw 0 rfl rfl d_M_come_177 ?_
                  refine lv_iconst (v := nI 1) hx hb d_M_come_180 rfl ?_
                  refine r_iaddN hx hb d_M_come_181 ?_
                  refine r_eq (show nI (E.length + 1) = nI ((E ++ [((frm ps w).1, fr, ru, lvA E fr, (frm ps w).2)]).length) from congrArg nI hEl.symm) ?_
                  refine p_M_82 hx hb hts hown hK hw 0 rfl (Nat.le_of_ble_eq_true rfl) d_M_come_182 (fun H locs hw1 => ?_)
                  replace hw : WW G A zs ([oM (am 0) [.int th, .int (nI n), .int (nI room), .int (nI Sx), .int (nI Kx), .int (nI rs.length), .ref (am 1), .ref (am 2), .ref (am 3), .ref (am 4), .ref (am 5), .ref (am 6), .ref (am 7), .ref (am 8), .int (nI pm.length), .int (nI ((E ++ [((frm ps w).1, fr, ru, lvA E fr, (frm ps w).2)]).length)), .int (nI S.length), .int (nI md), .int (nI ag), .int (nI (deadN S S.length)), .int (nI 0), .int bw, .ref (am 9), .ref (am 10), .ref (am 11), .ref (am 12), .ref (am 13), .ref (am 14), .ref (am 15), .ref (am 16), .ref (am 17), .ref (am 18), .int (nI ((frm ps w).2)), .int (nI lo)], aI G (am 1) 40 (fa 1), aI G (am 2) 40 (fa 2), aI G (am 3) 40 (fa 3), aI G (am 4) 40 (fa 4), aI G (am 5) 160 (fa 5), aI G (am 6) 160 (fa 6), aZ G (am 7) 64 (fa 7), aI G (am 8) 96 (fa 8), aI G (am 9) 98304 fw, aI G (am 10) 8192 (upd fd lo (nI E.length)), aI G (am 11) 8192 (upd (fa 11) E.length (nI lv)), aI G (am 12) 8192 (upd (fa 12) E.length fr), aI G (am 13) 8192 (upd (fa 13) E.length ru), aI G (am 14) 8192 (upd (fa 14) E.length (-1)), aI G (am 15) 8192 (upd (fa 15) E.length (nI ((frm ps w).2))), aI G (am 16) 12 (fa 16), aI G (am 17) 12 (fa 17), aI G (am 18) 12 (fa 18)]) H locs := hw1
                  exact r_ret hQ (r_vret (va_up (va_up (va_up (va_up (va_up (va_up (va_up fa 9 (fw)) 10 (upd fd lo (nI E.length))) 11 (upd (fa 11) E.length (nI lv))) 12 (upd (fa 12) E.length fr)) 13 (upd (fa 13) E.length ru)) 14 (upd (fa 14) E.length (-1))) 15 (upd (fa 15) E.length (nI (frm ps w).2)), bw) hx hb hr hlk hw (⟨comeM_post hMR hod1 hod2 hod3 hod hnin hE.1 hVb hfd hfw hlv (by omega) (by omega) hSE, fun z => absurd z (by decide), comeM_kp⟩) (by omega) (by omega) d_M_come_185)
                · skip
                  obtain rfl : ov1 = 1 := by rw [← hov]; exact comeM_b1 hs h00 hPm hV hn4 hp c_158
                  refine lv_aload_n hx hb d_M_come_161 rfl (lv_at hl 0 rfl) ?_
                  refine lv_aload_n hx hb d_M_come_162 rfl (lv_at hl 0 rfl) ?_
                  refine g_M_82 hx hb hts hown hK hw 0 rfl rfl d_M_come_163 ?_
                  refine p_M_100 hx hb hts hown hK hw 0 rfl (Nat.le_of_ble_eq_true rfl) d_M_come_166 (fun H locs hw1 => ?_)
                  replace hw : WW G A zs ([oM (am 0) [.int th, .int (nI n), .int (nI room), .int (nI Sx), .int (nI Kx), .int (nI rs.length), .ref (am 1), .ref (am 2), .ref (am 3), .ref (am 4), .ref (am 5), .ref (am 6), .ref (am 7), .ref (am 8), .int (nI pm.length), .int (nI E.length), .int (nI S.length), .int (nI md), .int (nI ag), .int (nI (deadN S S.length)), .int (nI 0), .int (nI E.length), .ref (am 9), .ref (am 10), .ref (am 11), .ref (am 12), .ref (am 13), .ref (am 14), .ref (am 15), .ref (am 16), .ref (am 17), .ref (am 18), .int (nI ((frm ps w).2)), .int (nI lo)], aI G (am 1) 40 (fa 1), aI G (am 2) 40 (fa 2), aI G (am 3) 40 (fa 3), aI G (am 4) 40 (fa 4), aI G (am 5) 160 (fa 5), aI G (am 6) 160 (fa 6), aZ G (am 7) 64 (fa 7), aI G (am 8) 96 (fa 8), aI G (am 9) 98304 fw, aI G (am 10) 8192 (upd fd lo (nI E.length)), aI G (am 11) 8192 (upd (fa 11) E.length (nI lv)), aI G (am 12) 8192 (upd (fa 12) E.length fr), aI G (am 13) 8192 (upd (fa 13) E.length ru), aI G (am 14) 8192 (upd (fa 14) E.length (-1)), aI G (am 15) 8192 (upd (fa 15) E.length (nI ((frm ps w).2))), aI G (am 16) 12 (fa 16), aI G (am 17) 12 (fa 17), aI G (am 18) 12 (fa 18)]) H locs := hw1
                  refine lv_aload_n hx hb d_M_come_169 rfl (lv_at hl 0 rfl) ?_
                  refine lv_bipush (v := -2) hx hb d_M_come_170 (by decide) ?_
                  refine p_M_97 hx hb hts hown hK hw 0 rfl (Nat.le_of_ble_eq_true rfl) d_M_come_172 (fun H locs hw1 => ?_)
                  replace hw : WW G A zs ([oM (am 0) [.int th, .int (nI n), .int (nI room), .int (nI Sx), .int (nI Kx), .int (nI rs.length), .ref (am 1), .ref (am 2), .ref (am 3), .ref (am 4), .ref (am 5), .ref (am 6), .ref (am 7), .ref (am 8), .int (nI pm.length), .int (nI E.length), .int (nI S.length), .int (nI md), .int (nI ag), .int (nI (deadN S S.length)), .int (-2), .int (nI E.length), .ref (am 9), .ref (am 10), .ref (am 11), .ref (am 12), .ref (am 13), .ref (am 14), .ref (am 15), .ref (am 16), .ref (am 17), .ref (am 18), .int (nI ((frm ps w).2)), .int (nI lo)], aI G (am 1) 40 (fa 1), aI G (am 2) 40 (fa 2), aI G (am 3) 40 (fa 3), aI G (am 4) 40 (fa 4), aI G (am 5) 160 (fa 5), aI G (am 6) 160 (fa 6), aZ G (am 7) 64 (fa 7), aI G (am 8) 96 (fa 8), aI G (am 9) 98304 fw, aI G (am 10) 8192 (upd fd lo (nI E.length)), aI G (am 11) 8192 (upd (fa 11) E.length (nI lv)), aI G (am 12) 8192 (upd (fa 12) E.length fr), aI G (am 13) 8192 (upd (fa 13) E.length ru), aI G (am 14) 8192 (upd (fa 14) E.length (-1)), aI G (am 15) 8192 (upd (fa 15) E.length (nI ((frm ps w).2))), aI G (am 16) 12 (fa 16), aI G (am 17) 12 (fa 17), aI G (am 18) 12 (fa 18)]) H locs := hw1
                  refine lv_aload_n hx hb d_M_come_175 rfl (lv_at hl 0 rfl) ?_
                  refine lv_dup hx hb d_M_come_176 rfl ?_
                  refine g_M_82 hx hb hts hown hK hw 0 rfl rfl d_M_come_177 ?_
                  refine lv_iconst (v := nI 1) hx hb d_M_come_180 rfl ?_
                  refine r_iaddN hx hb d_M_come_181 ?_
                  refine r_eq (show nI (E.length + 1) = nI ((E ++ [((frm ps w).1, fr, ru, lvA E fr, (frm ps w).2)]).length) from congrArg nI hEl.symm) ?_
                  refine p_M_82 hx hb hts hown hK hw 0 rfl (Nat.le_of_ble_eq_true rfl) d_M_come_182 (fun H locs hw1 => ?_)
                  replace hw : WW G A zs ([oM (am 0) [.int th, .int (nI n), .int (nI room), .int (nI Sx), .int (nI Kx), .int (nI rs.length), .ref (am 1), .ref (am 2), .ref (am 3), .ref (am 4), .ref (am 5), .ref (am 6), .ref (am 7), .ref (am 8), .int (nI pm.length), .int (nI ((E ++ [((frm ps w).1, fr, ru, lvA E fr, (frm ps w).2)]).length)), .int (nI S.length), .int (nI md), .int (nI ag), .int (nI (deadN S S.length)), .int (-2), .int (nI E.length), .ref (am 9), .ref (am 10), .ref (am 11), .ref (am 12), .ref (am 13), .ref (am 14), .ref (am 15), .ref (am 16), .ref (am 17), .ref (am 18), .int (nI ((frm ps w).2)), .int (nI lo)], aI G (am 1) 40 (fa 1), aI G (am 2) 40 (fa 2), aI G (am 3) 40 (fa 3), aI G (am 4) 40 (fa 4), aI G (am 5) 160 (fa 5), aI G (am 6) 160 (fa 6), aZ G (am 7) 64 (fa 7), aI G (am 8) 96 (fa 8), aI G (am 9) 98304 fw, aI G (am 10) 8192 (upd fd lo (nI E.length)), aI G (am 11) 8192 (upd (fa 11) E.length (nI lv)), aI G (am 12) 8192 (upd (fa 12) E.length fr), aI G (am 13) 8192 (upd (fa 13) E.length ru), aI G (am 14) 8192 (upd (fa 14) E.length (-1)), aI G (am 15) 8192 (upd (fa 15) E.length (nI ((frm ps w).2))), aI G (am 16) 12 (fa 16), aI G (am 17) 12 (fa 17), aI G (am 18) 12 (fa 18)]) H locs := hw1
                  exact r_ret hQ (r_vret (va_up (va_up (va_up (va_up (va_up (va_up (va_up fa 9 (fw)) 10 (upd fd lo (nI E.length))) 11 (upd (fa 11) E.length (nI lv))) 12 (upd (fa 12) E.length fr)) 13 (upd (fa 13) E.length ru)) 14 (upd (fa 14) E.length (-1))) 15 (upd (fa 15) E.length (nI (frm ps w).2)), nI E.length) hx hb hr hlk hw (⟨comeM_post hMR hod1 hod2 hod3 hod hnin hE.1 hVb hfd hfw hlv (by omega) (by omega) hSE, fun _ => by rw [hEl]; rfl, comeM_kp⟩) (by omega) (by omega) d_M_come_185)
              refine lv_aload_n hx hb d_M_come_86 rfl (lv_at hl 0 rfl) ?_
              refine g_M_46 hx hb hts hown hK hw 0 rfl rfl d_M_come_87 ?_
              refine lv_aload_n hx hb d_M_come_90 rfl (lv_at hl 0 rfl) ?_
              refine g_M_82 hx hb hts hown hK hw 0 rfl rfl d_M_come_91 ?_
              refine lv_iload_n hx hb d_M_come_94 rfl (lv_at hl 1 rfl) ?_
              refine lv_if_ge (tgt := 102) hx hb d_M_come_95 (by decide) (fun c_95 => ?_) (fun c_95 => ?_)
              · skip
                obtain ⟨i2, hi3, hi2⟩ := comeM_g hfr c_95
                refine lv_aload_n hx hb d_M_come_102 rfl (lv_at hl 0 rfl) ?_
                refine g_M_46 hx hb hts hown hK hw 0 rfl rfl d_M_come_103 ?_
                refine lv_iload_n hx hb d_M_come_106 rfl (lv_at hl 1 rfl) ?_
                refine r_eq (show fr = nI i2 from hi2) ?_
                refine r_iald hx hb hK hw 11 rfl (by omega) (by omega) d_M_come_107 ?_
                refine r_eq (show (fa 11) i2 = nI ((E.getD i2 eD).2.2.2.1) from (hMR i2 hi3).2.1) ?_
                refine lv_iconst (v := nI 1) hx hb d_M_come_108 rfl ?_
                refine r_iaddN hx hb d_M_come_109 ?_
                exact Lp110 (((E.getD i2 eD).2.2.2.1) + 1) (by unfold lvA; rw [if_neg (fun z => by rw [z] at c_95; exact absurd c_95 (by decide)), hi2, nI_clamp (by omega)]) _ _ _ (lv_sub hl [0, 1, 2] rfl) hw
              · skip
                refine lv_iconst (v := nI 0) hx hb d_M_come_98 rfl ?_
                refine lv_goto (tgt := 110) hx hb d_M_come_99 (by decide) ?_
                exact Lp110 0 (by unfold lvA; rw [if_pos (comeM_f hfr (by omega) c_95)]) _ _ _ (lv_sub hl [0, 1, 2] rfl) hw
            · skip
              refine lv_aload_n hx hb d_M_come_60 rfl (lv_at hl 0 rfl) ?_
              refine g_M_40 hx hb hts hown hK hw 0 rfl rfl d_M_come_61 ?_
              refine lv_bipush (v := nI 12) hx hb d_M_come_64 (by decide) ?_
              refine lv_aload_n hx hb d_M_come_66 rfl (lv_at hl 0 rfl) ?_
              refine g_M_82 hx hb hts hown hK hw 0 rfl rfl d_M_come_67 ?_
              refine r_imulN hx hb d_M_come_70 ?_
              refine lv_iload_n hx hb d_M_come_71 rfl (lv_at hl 3 rfl) ?_
              refine r_iaddN hx hb d_M_come_72 ?_
              refine lv_aload_n hx hb d_M_come_73 rfl (lv_at hl 0 rfl) ?_
              refine g_M_67 hx hb hts hown hK hw 0 rfl rfl d_M_come_74 ?_
              refine lv_iload_n hx hb d_M_come_77 rfl (lv_at hl 3 rfl) ?_
              have hdg := hVb.dg128 k
              refine r_iald hx hb hK hw 18 rfl (by omega) (by omega) d_M_come_78 ?_
              refine r_eq (show (fa 18) k = nI (dg (frm ps w).1 k) from by have := hlr k c_57; rwa [Nat.zero_add] at this) ?_
              refine r_iast hx hb hK hw 9 rfl (by omega) (by omega) d_M_come_79 (fun H locs hw1 => ?_)
              replace hw : WW G A zs ([oM (am 0) [.int th, .int (nI n), .int (nI room), .int (nI Sx), .int (nI Kx), .int (nI rs.length), .ref (am 1), .ref (am 2), .ref (am 3), .ref (am 4), .ref (am 5), .ref (am 6), .ref (am 7), .ref (am 8), .int (nI pm.length), .int (nI E.length), .int (nI S.length), .int (nI md), .int (nI ag), .int (nI (deadN S S.length)), .int (nI 0), .int bw, .ref (am 9), .ref (am 10), .ref (am 11), .ref (am 12), .ref (am 13), .ref (am 14), .ref (am 15), .ref (am 16), .ref (am 17), .ref (am 18), .int (nI ((frm ps w).2)), .int (nI lo)], aI G (am 1) 40 (fa 1), aI G (am 2) 40 (fa 2), aI G (am 3) 40 (fa 3), aI G (am 4) 40 (fa 4), aI G (am 5) 160 (fa 5), aI G (am 6) 160 (fa 6), aZ G (am 7) 64 (fa 7), aI G (am 8) 96 (fa 8), aI G (am 9) 98304 (upd fw ((12 * E.length) + k) (nI (dg (frm ps w).1 k))), aI G (am 10) 8192 (upd fd lo (nI E.length)), aI G (am 11) 8192 (fa 11), aI G (am 12) 8192 (fa 12), aI G (am 13) 8192 (fa 13), aI G (am 14) 8192 (fa 14), aI G (am 15) 8192 (fa 15), aI G (am 16) 12 (fa 16), aI G (am 17) 12 (fa 17), aI G (am 18) 12 (fa 18)]) H locs := hw1
              refine r_iincN (n := 1) (lv' := [(3, .int (nI (k + 1))), (0, .ref (am 0)), (1, .int fr), (2, .int ru)]) hx hb d_M_come_80 hl (k := 3) rfl (by decide) rfl (fun ls hl => ?_)
              refine lv_goto (tgt := 48) hx hb d_M_come_83 (by decide) ?_
              exact ih_48 (k + 1) (upd fw ((12 * E.length) + k) (nI (dg (frm ps w).1 k))) (by omega) (comeM_row hfw) (by omega) _ _ _ (lv_sub hl [1, 2, 3, 0] rfl) hw
        exact Lp48 _ 0 (fa 9) (by omega) ⟨fun i hi => absurd hi (Nat.not_lt_zero _), fun _ _ => rfl⟩ (Nat.lt_succ_self _) _ _ _ (lv_sub hl [1, 2, 3, 0] rfl) hw
      · skip
        refine lv_aload_n hx hb d_M_come_13 rfl (lv_at hl 0 rfl) ?_
        refine g_M_43 hx hb hts hown hK hw 0 rfl rfl d_M_come_14 ?_
        refine lv_iload_n hx hb d_M_come_17 rfl (lv_at hl 3 rfl) ?_
        refine lv_aload_n hx hb d_M_come_18 rfl (lv_at hl 0 rfl) ?_
        refine g_M_43 hx hb hts hown hK hw 0 rfl rfl d_M_come_19 ?_
        refine lv_iload_n hx hb d_M_come_22 rfl (lv_at hl 3 rfl) ?_
        refine lv_iconst (v := nI 1) hx hb d_M_come_23 rfl ?_
        refine r_isubN hx hb (by omega) d_M_come_24 ?_
        refine r_iald hx hb hK hw 10 rfl (by omega) (by omega) d_M_come_25 ?_
        refine r_iast hx hb hK hw 10 rfl (by omega) (by omega) d_M_come_26 (fun H locs hw1 => ?_)
        replace hw : WW G A zs ([oM (am 0) [.int th, .int (nI n), .int (nI room), .int (nI Sx), .int (nI Kx), .int (nI rs.length), .ref (am 1), .ref (am 2), .ref (am 3), .ref (am 4), .ref (am 5), .ref (am 6), .ref (am 7), .ref (am 8), .int (nI pm.length), .int (nI E.length), .int (nI S.length), .int (nI md), .int (nI ag), .int (nI (deadN S S.length)), .int (nI 0), .int bw, .ref (am 9), .ref (am 10), .ref (am 11), .ref (am 12), .ref (am 13), .ref (am 14), .ref (am 15), .ref (am 16), .ref (am 17), .ref (am 18), .int (nI ((frm ps w).2)), .int (nI lo)], aI G (am 1) 40 (fa 1), aI G (am 2) 40 (fa 2), aI G (am 3) 40 (fa 3), aI G (am 4) 40 (fa 4), aI G (am 5) 160 (fa 5), aI G (am 6) 160 (fa 6), aZ G (am 7) 64 (fa 7), aI G (am 8) 96 (fa 8), aI G (am 9) 98304 (fa 9), aI G (am 10) 8192 (upd fd k (fd (k - 1))), aI G (am 11) 8192 (fa 11), aI G (am 12) 8192 (fa 12), aI G (am 13) 8192 (fa 13), aI G (am 14) 8192 (fa 14), aI G (am 15) 8192 (fa 15), aI G (am 16) 12 (fa 16), aI G (am 17) 12 (fa 17), aI G (am 18) 12 (fa 18)]) H locs := hw1
        refine lv_iinc (v := nI (k - 1)) (lv' := [(3, .int (nI (k - 1))), (0, .ref (am 0)), (1, .int fr), (2, .int ru)]) hx hb d_M_come_27 hl (k := 3) rfl (sb_m1 (by omega)) (by decide) rfl (fun ls hl => ?_)
        refine lv_goto (tgt := 5) hx hb d_M_come_30 (by decide) ?_
        exact ih_5 (k - 1) (upd fd k (fd (k - 1))) ⟨by omega, by omega⟩ (comeM_sh hfd (by omega)) (by omega) _ _ _ (lv_sub hl [1, 2, 3, 0] rfl) hw
  exact Lp5 _ E.length (fa 10) ⟨hod.1, Nat.le_refl _⟩ ⟨fun _ _ => rfl, fun t a c => absurd c (by omega)⟩ (Nat.lt_succ_self _) _ _ _ (lv_sub hl [1, 2, 3, 0] rfl) hw
