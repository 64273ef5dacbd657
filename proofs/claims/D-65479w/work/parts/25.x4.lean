def sel7 {α : Type} (a1 a2 a3 a4 a5 a6 a7 : α) (i : Nat) : α := match i with
  | 1 => a1
  | 2 => a2
  | 3 => a3
  | 4 => a4
  | 5 => a5
  | 6 => a6
  | _ => a7
theorem tri_eq {α β γ : Type} {a a' : α} {b b' : β} {c c' : γ} (h : (a, b, c) = (a', b', c')) : a = a' ∧ b = b' ∧ c = c' := by
  cases h; exact ⟨rfl, rfl, rfl⟩
theorem come_again {ps : List (List Nat)} {B : Nat → Bool} {n room ag : Nat} {E : List Ent} {w : Wh} {fr ru : Int32} (h : (frm ps w).1 ∈ E.map (fun e => e.1)) : comeA ps B n room E ag w fr ru = (E, ag + 1, 0) := by
  unfold comeA; rw [if_pos h]
theorem come_full {ps : List (List Nat)} {B : Nat → Bool} {n room ag : Nat} {E : List Ent} {w : Wh} {fr ru : Int32} (h : (frm ps w).1 ∉ E.map (fun e => e.1)) (h2 : E.length = room) : comeA ps B n room E ag w fr ru = (E, ag, 2) := by
  unfold comeA; rw [if_neg h, if_pos h2]
theorem come_add {ps : List (List Nat)} {B : Nat → Bool} {n room ag : Nat} {E : List Ent} {w : Wh} {fr ru : Int32} (h : (frm ps w).1 ∉ E.map (fun e => e.1)) (h2 : E.length ≠ room) : comeA ps B n room E ag w fr ru = (E ++ [((frm ps w).1, fr, ru, lvA E fr, (frm ps w).2)], ag, if badB n B w = true then 1 else 0) := by
  unfold comeA; rw [if_neg h, if_neg h2]
theorem fr_old {e mn p : Nat} {tb : Nat → Int32} {fm : Nat → Int64} {v : Int64} (h : FR e tb fm mn v p) (ht : ¬ tb p = -1) : ∃ j, j < mn ∧ fm j = v := by
  rcases h.2 with h1 | ⟨j, h1, -, h2⟩
  · exact absurd h1.1 ht
  · exact ⟨j, h1, h2⟩
theorem fr_nin {n room e p : Nat} {E : List Ent} {tb : Nat → Int32} {fm : Nat → Int64} {f2 f3 f4 f6 : Nat → Int32} (hX : XE E fm f2 f3 f4 f6) (hE : EOK n room E) {b : Wh} (hb : Vl n b) (h : FR e tb fm E.length (lN (pk b)) p) (ht : tb p = -1) (hm : E.length < 2147483648) : b ∉ E.map (fun e => e.1) := by
  intro z
  rcases h.2 with h1 | ⟨j, h1, h2, -⟩
  · obtain ⟨j, hj, hv⟩ := (find_in hX hE hb rfl).mpr z
    exact h1.2.1 j hj hv
  · rw [ht] at h2
    exact nI_neg (by omega) h2.symm
theorem fr_new {n room mn : Nat} {E : List Ent} {fm : Nat → Int64} {f2 f3 f4 f6 : Nat → Int32} (hX : XE E fm f2 f3 f4 f6) (hE : EOK n room E) {b : Wh} (hb : Vl n b) (hm : mn = E.length) (h : b ∉ E.map (fun e => e.1)) : ∀ j, j < mn → fm j ≠ lN (pk b) := fun j hj hv => h ((find_in hX hE hb hm).mp ⟨j, hj, hv⟩)
theorem cpy0 {f : Nat → Int32} {n : Nat} : ∀ k, k < n → va_cpy f (fun _ => 0) 0 0 n k = f k := fun k hk => by
  rw [pk_cpy_in (Nat.zero_le _) (by omega)]; simp
theorem j_lt7 {j : Nat} (h7 : j ≤ 7) (h : 64 * 2 ^ j < 8192) : j < 7 := by
  rcases Nat.lt_or_ge j 7 with h1 | h1
  · exact h1
  · have : j = 7 := by omega
    subst this
    exact absurd h (by decide)
theorem come_post {ps : List (List Nat)} {B : Nat → Bool} {n j jj p lv ov1 : Nat} {E : List Ent} {w : Wh} {fr ru : Int32} {fm2 : Nat → Int64} {fs fs2 : Nat → Nat → Int32} (hlv : lv = lvA E fr) (hX2 : XE E fm2 (fs2 2) (fs2 3) (fs2 4) (fs2 6)) (hT2 : TInv (8 + jj) (fs2 7) fm2 E.length) (hR2 : FR (8 + jj) (fs2 7) fm2 E.length (lN (pk (frm ps w).1)) p) (hnm : ∀ j, j < E.length → fm2 j ≠ lN (pk (frm ps w).1)) (hs5 : ∀ k, k < E.length → fs2 5 k = fs 5 k) (hov : (if badB n B w = true then 1 else 0) = ov1) (hjx : jx j (E ++ [((frm ps w).1, fr, ru, lvA E fr, (frm ps w).2)]).length = jj) (hb : E.length < 100000) :
    XE (E ++ [((frm ps w).1, fr, ru, lvA E fr, (frm ps w).2)]) (vp_updL fm2 E.length (lN (pk (frm ps w).1))) (upd (fs2 2) E.length fr) (upd (fs2 3) E.length ru) (upd (fs2 4) E.length (nI lv)) (upd (fs2 6) E.length (nI (frm ps w).2)) ∧ TInv (8 + jx j (E ++ [((frm ps w).1, fr, ru, lvA E fr, (frm ps w).2)]).length) (upd (fs2 7) p (nI E.length)) (vp_updL fm2 E.length (lN (pk (frm ps w).1))) (E ++ [((frm ps w).1, fr, ru, lvA E fr, (frm ps w).2)]).length ∧ (∀ k, k < E.length → upd (fs2 5) E.length (-1) k = fs 5 k) ∧ boF ov1 (E ++ [((frm ps w).1, fr, ru, lvA E fr, (frm ps w).2)]).length = boF ov1 (E ++ [((frm ps w).1, fr, ru, lvA E fr, (frm ps w).2)]).length ∧ nI 0 = fuF ov1 := by
  subst hlv
  refine ⟨hX2.snoc _ _ _ _ _, ?_, fun k hk => ?_, rfl, ?_⟩
  · rw [hjx, List.length_append, List.length_singleton]
    exact hT2.put (by omega) hR2 hnm (fun i hi => by rw [vp_updL, if_neg (by omega)]) (by rw [vp_updL, if_pos rfl])
  · rw [upd, if_neg (by omega)]; exact hs5 k hk
  · rw [← hov]
    split <;> rfl
set_option maxHeartbeats 4000000 in
set_option maxRecDepth 100000 in
theorem c_X_come (zl : Launch) (G : GG) (h0 qb qn hw0 qs qc ho qs1 qc1 qm n room j ag : Nat) (qa : Nat → Nat) (v2 v3 v4 v5 v16 v20 v22 v23 : Value) (sw z1 : Value) (fm : Nat → Int64) (fs : Nat → Nat → Int32) (fb fn f g f1 g1 fk : Nat → Int32) (ps : List (List Nat)) (B : Nat → Bool) (E E1 : List Ent) (ag1 ov1 : Nat) (w : Wh) (fr ru : Int32) (hn4 : n ≤ 4) (hV : Vl n w) (hf : Sts f w) (hg : Cds g 0 w.2) (hB : ∀ i, i < 64 → fb i = if B i = true then nI 1 else nI 0) (h00 : 0 < ps.length) (h24 : ps.length ≤ 24) (hPm : ∀ π ∈ ps, Pm n π) (hnum : ∀ k, k < ps.length → ∀ i, i < 4 → fn (4 * k + i) = nI ((ps.getD k []).getD i 0)) (hX : XE E fm (fs 2) (fs 3) (fs 4) (fs 6)) (hE : EOK n room E) (hT : TInv (8 + j) (fs 7) fm E.length) (hlen : E.length ≤ 64 * 2 ^ j) (hj7 : j ≤ 7) (hfr : fr = -1 ∨ ∃ i, i < E.length ∧ fr = nI i) (hc : comeA ps B n room E ag w fr ru = (E1, ag1, ov1)) : Ctr (S := (Nat → Nat) × (Nat → Int64) × (Nat → Nat → Int32) × (Nat → Int32) × Value × (Nat → Int32) × (Nat → Int32) × Value × Int32 × Int32) vV zl y_X_come b_X_come 7 (Option.none : Option Jvm.ClassFile.FieldType) 3 (7 * (jx j E1.length - j)) (1280 * 2 ^ jx j E1.length - 1280 * 2 ^ j) G [.ref h0, .ref hw0, .int fr, .int ru] ([oX h0 [.int (nI n), .int (nI room), v2, v3, v4, v5, .ref qb, .ref qn, .int (nI ps.length), .ref (qa 1), .ref (qa 2), .ref (qa 3), .ref (qa 4), .ref (qa 5), .ref (qa 6), .int (nI E.length), v16, .ref (qa 7), .int (-1), .int (nI 0), v20, .int (nI ag), v22, v23, .ref ho, .ref qm, sw], aZ G qb 64 fb, aI G qn 96 fn, aJ G (qa 1) (64 * 2 ^ j) fm, aI G (qa 2) (64 * 2 ^ j) (fs 2), aI G (qa 3) (64 * 2 ^ j) (fs 3), aI G (qa 4) (64 * 2 ^ j) (fs 4), aI G (qa 5) (64 * 2 ^ j) (fs 5), aI G (qa 6) (64 * 2 ^ j) (fs 6), aI G (qa 7) (2 ^ (8 + j)) (fs 7), oW hw0 [.ref qs, .ref qc, .int (nI w.2.length)], aI G qs 4 f, aI G qc 8 g, oW ho [.ref qs1, .ref qc1, z1], aI G qs1 4 f1, aI G qc1 8 g1, aI G qm 4 fk]) (fun _ u => XE E1 u.2.1 (u.2.2.1 2) (u.2.2.1 3) (u.2.2.1 4) (u.2.2.1 6) ∧ TInv (8 + jx j E1.length) (u.2.2.1 7) u.2.1 E1.length ∧ (∀ k, k < E.length → u.2.2.1 5 k = fs 5 k) ∧ u.2.2.2.2.2.2.2.2.1 = boF ov1 E1.length ∧ u.2.2.2.2.2.2.2.2.2 = fuF ov1) (fun u => [oX h0 [.int (nI n), .int (nI room), v2, v3, v4, v5, .ref qb, .ref qn, .int (nI ps.length), .ref (u.1 1), .ref (u.1 2), .ref (u.1 3), .ref (u.1 4), .ref (u.1 5), .ref (u.1 6), .int (nI E1.length), v16, .ref (u.1 7), .int u.2.2.2.2.2.2.2.2.1, .int u.2.2.2.2.2.2.2.2.2, v20, .int (nI ag1), v22, v23, .ref ho, .ref qm, u.2.2.2.2.2.2.2.1], aZ G qb 64 fb, aI G qn 96 fn, aJ G (u.1 1) (64 * 2 ^ jx j E1.length) u.2.1, aI G (u.1 2) (64 * 2 ^ jx j E1.length) (u.2.2.1 2), aI G (u.1 3) (64 * 2 ^ jx j E1.length) (u.2.2.1 3), aI G (u.1 4) (64 * 2 ^ jx j E1.length) (u.2.2.1 4), aI G (u.1 5) (64 * 2 ^ jx j E1.length) (u.2.2.1 5), aI G (u.1 6) (64 * 2 ^ jx j E1.length) (u.2.2.1 6), aI G (u.1 7) (2 ^ (8 + jx j E1.length)) (u.2.2.1 7), oW hw0 [.ref qs, .ref qc, .int (nI w.2.length)], aI G qs 4 f, aI G qc 8 g, oW ho [.ref qs1, .ref qc1, u.2.2.2.2.1], aI G qs1 4 u.2.2.2.2.2.1, aI G qc1 8 u.2.2.2.2.2.2.1, aI G qm 4 u.2.2.2.1]) := by
  refine Ctr.start (by decide) (Nat.le_of_ble_eq_true rfl) ?_
  intro zp ze zs zm below meth zc A ls C0 hin hK hA hl hw
  obtain ⟨hx, hb, hr, hlk, hml, hown, hts⟩ := C0
  obtain ⟨R, hRR⟩ : ∃ R : Room, R = rmL 3 (7 * (jx j E1.length - j)) (1280 * 2 ^ jx j E1.length - 1280 * 2 ^ j) := ⟨_, rfl⟩
  have hRf : R.frames = 3 := by rw [hRR]
  have hRl : R.locals = 64 * 3 := by rw [hRR]
  have hRc : R.cells = 7 * (jx j E1.length - j) := by rw [hRR]
  have hRs : R.slots = 1280 * 2 ^ jx j E1.length - 1280 * 2 ^ j := by rw [hRR]
  rw [← hRR]; clear hRR
  generalize hQ : MQ below _ _ zs _ _ A = Q
  generalize hAr : List.toArray _ = args at hts hQ ⊢
  replace hl : lv_has ls 7 [(0, .ref h0), (1, .ref hw0), (2, .int fr), (3, .int ru)] := hl
  obtain ⟨H, eH⟩ : ∃ H : Heap, H = zs.heap := ⟨_, rfl⟩
  obtain ⟨locs, eL⟩ : ∃ l0 : List Loc, l0 = [] := ⟨_, rfl⟩
  rw [← eH, ← eL] at hw ⊢; clear eH eL
  have hE8 := hE.2.2
  have hpw := pow_mono hj7
  have hpe : 2 ^ (8 + j) = 256 * 2 ^ j := by rw [Nat.pow_add]
  have hp0 : 0 < 2 ^ j := Nat.pow_pos (by decide)
  have hT16 : 2 ^ (8 + j) ≤ 65536 := by omega
  have hVb := frm_ok h00 hPm hV hn4 (w := w)
  refine lv_aload_n hx hb d_X_come_0 rfl (lv_at hl 0 rfl) ?_
  refine lv_aload_n hx hb d_X_come_1 rfl (lv_at hl 1 rfl) ?_
  refine xV_j (rest := []) (As := [.ref hw0]) hx hb hml hown hts hK hA hw k_X_182 (c_X_form zl G h0 qn qm ho qs1 qc1 hw0 qs qc n (.int (nI n)) (.int (nI room)) v2 v3 v4 v5 (.ref qb) (.ref (qa 1)) (.ref (qa 2)) (.ref (qa 3)) (.ref (qa 4)) (.ref (qa 5)) (.ref (qa 6)) (.int (nI E.length)) v16 (.ref (qa 7)) (.int (-1)) (.int (nI 0)) v20 (.int (nI ag)) v22 v23 sw z1 fn fk f1 g1 f g ps w hV hn4 hf hg h00 h24 hPm hnum) [0, 2, 16, 13, 14, 15, 10, 11, 12] rfl rfl (fun _ => Nat.le_of_ble_eq_true rfl) 0 rfl rfl rfl rfl hl.1 (Nat.le_of_ble_eq_true rfl) ⟨(by omega), (by omega)⟩ ⟨(by omega), (by omega)⟩ d_X_come_2 (fun r u2 H locs hp hw1 => ?_)
  obtain ⟨sc, fk2, z2, f12, g12⟩ := u2
  obtain ⟨rfl, rfl⟩ := hp
  refine W.cs (cells' := 0) (slots' := 0) rfl rfl ?_
  replace hw : WW G A zs ([oX h0 [.int (nI n), .int (nI room), v2, v3, v4, v5, .ref qb, .ref qn, .int (nI ps.length), .ref (qa 1), .ref (qa 2), .ref (qa 3), .ref (qa 4), .ref (qa 5), .ref (qa 6), .int (nI E.length), v16, .ref (qa 7), .int (-1), .int (nI 0), v20, .int (nI ag), v22, v23, .ref ho, .ref qm, .int (nI ((frm ps w).2))], aZ G qb 64 fb, aI G qn 96 fn, aJ G (qa 1) (64 * 2 ^ j) fm, aI G (qa 2) (64 * 2 ^ j) (fs 2), aI G (qa 3) (64 * 2 ^ j) (fs 3), aI G (qa 4) (64 * 2 ^ j) (fs 4), aI G (qa 5) (64 * 2 ^ j) (fs 5), aI G (qa 6) (64 * 2 ^ j) (fs 6), aI G (qa 7) (2 ^ (8 + j)) (fs 7), oW hw0 [.ref qs, .ref qc, .int (nI w.2.length)], aI G qs 4 f, aI G qc 8 g, oW ho [.ref qs1, .ref qc1, z2], aI G qs1 4 f12, aI G qc1 8 g12, aI G qm 4 fk2]) H locs := hw1
  refine lv_lstore (lv' := [(4, .long (lN (pk (frm ps w).1))), (0, .ref h0), (1, .ref hw0), (2, .int fr), (3, .int ru)]) hx hb d_X_come_5 hl (by decide) rfl (fun ls hl => ?_)
  refine lv_aload_n hx hb d_X_come_7 rfl (lv_at hl 1 rfl) ?_
  refine lv_lload hx hb d_X_come_8 (lv_at hl 0 rfl) ?_
  refine xV_i (rest := []) (As := [.long (lN (pk (frm ps w).1))]) hx hb hml hown hts hK hA hw k_X_177 (c_X_find zl G h0 (qa 7) (qa 1) (8 + j) (64 * 2 ^ j) E.length (.int (nI n)) (.int (nI room)) v2 v3 v4 v5 (.ref qb) (.ref qn) (.int (nI ps.length)) (.ref (qa 2)) (.ref (qa 3)) (.ref (qa 4)) (.ref (qa 5)) (.ref (qa 6)) (.int (nI E.length)) v16 (.int (-1)) (.int (nI 0)) v20 (.int (nI ag)) v22 v23 (.ref ho) (.ref qm) (.int (nI ((frm ps w).2))) (fs 7) fm (lN (pk (frm ps w).1)) hT16 (by omega) (by omega) (by omega) hlen (by omega) hT) [0, 9, 3] rfl rfl (fun _ => Nat.le_of_ble_eq_true rfl) 0 rfl rfl rfl rfl hl.1 (Nat.le_of_ble_eq_true rfl) ⟨(by omega), (by omega)⟩ ⟨(by omega), (by omega)⟩ d_X_come_10 (fun r p H locs hp hw1 => ?_)
  obtain ⟨rfl, hFR⟩ := hp
  have hp1 := hFR.1
  refine W.cs (cells' := 0) (slots' := 0) rfl rfl ?_
  replace hw : WW G A zs ([oX h0 [.int (nI n), .int (nI room), v2, v3, v4, v5, .ref qb, .ref qn, .int (nI ps.length), .ref (qa 1), .ref (qa 2), .ref (qa 3), .ref (qa 4), .ref (qa 5), .ref (qa 6), .int (nI E.length), v16, .ref (qa 7), .int (-1), .int (nI 0), v20, .int (nI ag), v22, v23, .ref ho, .ref qm, .int (nI ((frm ps w).2))], aZ G qb 64 fb, aI G qn 96 fn, aJ G (qa 1) (64 * 2 ^ j) fm, aI G (qa 2) (64 * 2 ^ j) (fs 2), aI G (qa 3) (64 * 2 ^ j) (fs 3), aI G (qa 4) (64 * 2 ^ j) (fs 4), aI G (qa 5) (64 * 2 ^ j) (fs 5), aI G (qa 6) (64 * 2 ^ j) (fs 6), aI G (qa 7) (2 ^ (8 + j)) (fs 7), oW hw0 [.ref qs, .ref qc, .int (nI w.2.length)], aI G qs 4 f, aI G qc 8 g, oW ho [.ref qs1, .ref qc1, z2], aI G qs1 4 f12, aI G qc1 8 g12, aI G qm 4 fk2]) H locs := hw1
  refine lv_istore (lv' := [(6, .int (nI p)), (4, .long (lN (pk (frm ps w).1))), (0, .ref h0), (1, .ref hw0), (2, .int fr), (3, .int ru)]) hx hb d_X_come_13 hl (by decide) rfl (fun ls hl => ?_)
  refine lv_aload_n hx hb d_X_come_15 rfl (lv_at hl 2 rfl) ?_
  refine g_X_46 hx hb hts hown hK hw 0 rfl rfl d_X_come_16 ?_
  refine lv_iload hx hb d_X_come_19 (lv_at hl 0 rfl) ?_
  refine r_iald hx hb hK hw 9 rfl (by omega) (by omega) d_X_come_21 ?_
  refine lv_iconst (v := -1) hx hb d_X_come_22 (by decide) ?_
  refine lv_icmp_eq (tgt := 37) hx hb d_X_come_23 (by decide) (fun c_23 => ?_) (fun c_23 => ?_)
  · skip
    have hnin := fr_nin hX hE hVb hFR c_23 (by omega)
    refine lv_aload_n hx hb d_X_come_37 rfl (lv_at hl 2 rfl) ?_
    refine g_X_99 hx hb hts hown hK hw 0 rfl rfl d_X_come_38 ?_
    refine lv_aload_n hx hb d_X_come_41 rfl (lv_at hl 2 rfl) ?_
    refine g_X_77 hx hb hts hown hK hw 0 rfl rfl d_X_come_42 ?_
    refine r_icmp_ne (tgt := 54) hx hb (by omega) (by omega) d_X_come_45 (by decide) (fun c_45 => ?_) (fun c_45 => ?_)
    · skip
      obtain ⟨rfl, rfl, hov⟩ := tri_eq ((come_add hnin c_45).symm.trans hc)
      have hEl : (E ++ [((frm ps w).1, fr, ru, lvA E fr, (frm ps w).2)]).length = E.length + 1 := by rw [List.length_append]; rfl
      have Lp78 : ∀ (jj : Nat) (qa2 : Nat → Nat) (fm2 : Nat → Int64) (fs2 : Nat → Nat → Int32) (p : Nat), (jx j (E ++ [((frm ps w).1, fr, ru, lvA E fr, (frm ps w).2)]).length = jj) → (XE E fm2 (fs2 2) (fs2 3) (fs2 4) (fs2 6)) → (TInv (8 + jj) (fs2 7) fm2 E.length) → (p < 2 ^ (8 + jj)) → (FR (8 + jj) (fs2 7) fm2 E.length (lN (pk (frm ps w).1)) p) → (∀ k, k < E.length → fs2 5 k = fs 5 k) → (E.length < 64 * 2 ^ jj) → ∀ (H : Heap) (locs : List Loc) (ls : Array Slot), lv_has ls 7 [(0, .ref h0), (1, .ref hw0), (2, .int fr), (3, .int ru), (4, .long (lN (pk (frm ps w).1))), (6, .int (nI p))] → WW G A zs ([oX h0 [.int (nI n), .int (nI room), v2, v3, v4, v5, .ref qb, .ref qn, .int (nI ps.length), .ref (qa2 1), .ref (qa2 2), .ref (qa2 3), .ref (qa2 4), .ref (qa2 5), .ref (qa2 6), .int (nI E.length), v16, .ref (qa2 7), .int (-1), .int (nI 0), v20, .int (nI ag), v22, v23, .ref ho, .ref qm, .int (nI ((frm ps w).2))], aZ G qb 64 fb, aI G qn 96 fn, aJ G (qa2 1) (64 * 2 ^ jj) fm2, aI G (qa2 2) (64 * 2 ^ jj) (fs2 2), aI G (qa2 3) (64 * 2 ^ jj) (fs2 3), aI G (qa2 4) (64 * 2 ^ jj) (fs2 4), aI G (qa2 5) (64 * 2 ^ jj) (fs2 5), aI G (qa2 6) (64 * 2 ^ jj) (fs2 6), aI G (qa2 7) (2 ^ (8 + jj)) (fs2 7), oW hw0 [.ref qs, .ref qc, .int (nI w.2.length)], aI G qs 4 f, aI G qc 8 g, oW ho [.ref qs1, .ref qc1, z2], aI G qs1 4 f12, aI G qc1 8 g12, aI G qm 4 fk2]) H locs → W zp zl ze R zs zm args below meth zc H locs (7 * (jx j (E ++ [((frm ps w).1, fr, ru, lvA E fr, (frm ps w).2)]).length - j)) (1280 * 2 ^ jx j (E ++ [((frm ps w).1, fr, ru, lvA E fr, (frm ps w).2)]).length - 1280 * 2 ^ j) Q (F0 zm 78 ls []) := by
        intro jj qa2 fm2 fs2 p hjx hX2 hT2 hp2 hR2 hs5 hl2 H locs ls hl hw
        have hnm := fr_new hX2 hE hVb rfl hnin
        have hjj7 : jj ≤ 7 := by rw [← hjx]; exact jx_7 hj7
        have hpw := pow_mono hjj7
        have hpw2 : 2 ^ (8 + jj) ≤ 32768 := pow_mono (a := 8 + jj) (b := 15) (by omega)
        refine lv_aload_n hx hb d_X_come_78 rfl (lv_at hl 0 rfl) ?_
        refine g_X_46 hx hb hts hown hK hw 0 rfl rfl d_X_come_79 ?_
        refine lv_iload hx hb d_X_come_82 (lv_at hl 5 rfl) ?_
        refine lv_aload_n hx hb d_X_come_84 rfl (lv_at hl 0 rfl) ?_
        refine g_X_99 hx hb hts hown hK hw 0 rfl rfl d_X_come_85 ?_
        refine r_iast hx hb hK hw 9 rfl (by omega) (by omega) d_X_come_88 (fun H locs hw1 => ?_)
        replace hw : WW G A zs ([oX h0 [.int (nI n), .int (nI room), v2, v3, v4, v5, .ref qb, .ref qn, .int (nI ps.length), .ref (qa2 1), .ref (qa2 2), .ref (qa2 3), .ref (qa2 4), .ref (qa2 5), .ref (qa2 6), .int (nI E.length), v16, .ref (qa2 7), .int (-1), .int (nI 0), v20, .int (nI ag), v22, v23, .ref ho, .ref qm, .int (nI ((frm ps w).2))], aZ G qb 64 fb, aI G qn 96 fn, aJ G (qa2 1) (64 * 2 ^ jj) fm2, aI G (qa2 2) (64 * 2 ^ jj) (fs2 2), aI G (qa2 3) (64 * 2 ^ jj) (fs2 3), aI G (qa2 4) (64 * 2 ^ jj) (fs2 4), aI G (qa2 5) (64 * 2 ^ jj) (fs2 5), aI G (qa2 6) (64 * 2 ^ jj) (fs2 6), aI G (qa2 7) (2 ^ (8 + jj)) (upd (fs2 7) p (nI E.length)), oW hw0 [.ref qs, .ref qc, .int (nI w.2.length)], aI G qs 4 f, aI G qc 8 g, oW ho [.ref qs1, .ref qc1, z2], aI G qs1 4 f12, aI G qc1 8 g12, aI G qm 4 fk2]) H locs := hw1
        refine lv_aload_n hx hb d_X_come_89 rfl (lv_at hl 0 rfl) ?_
        refine g_X_27 hx hb hts hown hK hw 0 rfl rfl d_X_come_90 ?_
        refine lv_aload_n hx hb d_X_come_93 rfl (lv_at hl 0 rfl) ?_
        refine g_X_99 hx hb hts hown hK hw 0 rfl rfl d_X_come_94 ?_
        refine lv_lload hx hb d_X_come_97 (lv_at hl 4 rfl) ?_
        refine r_last hx hb hK hw 3 rfl (by omega) (by omega) d_X_come_99 (fun H locs hw1 => ?_)
        replace hw : WW G A zs ([oX h0 [.int (nI n), .int (nI room), v2, v3, v4, v5, .ref qb, .ref qn, .int (nI ps.length), .ref (qa2 1), .ref (qa2 2), .ref (qa2 3), .ref (qa2 4), .ref (qa2 5), .ref (qa2 6), .int (nI E.length), v16, .ref (qa2 7), .int (-1), .int (nI 0), v20, .int (nI ag), v22, v23, .ref ho, .ref qm, .int (nI ((frm ps w).2))], aZ G qb 64 fb, aI G qn 96 fn, aJ G (qa2 1) (64 * 2 ^ jj) (vp_updL fm2 E.length (lN (pk (frm ps w).1))), aI G (qa2 2) (64 * 2 ^ jj) (fs2 2), aI G (qa2 3) (64 * 2 ^ jj) (fs2 3), aI G (qa2 4) (64 * 2 ^ jj) (fs2 4), aI G (qa2 5) (64 * 2 ^ jj) (fs2 5), aI G (qa2 6) (64 * 2 ^ jj) (fs2 6), aI G (qa2 7) (2 ^ (8 + jj)) (upd (fs2 7) p (nI E.length)), oW hw0 [.ref qs, .ref qc, .int (nI w.2.length)], aI G qs 4 f, aI G qc 8 g, oW ho [.ref qs1, .ref qc1, z2], aI G qs1 4 f12, aI G qc1 8 g12, aI G qm 4 fk2]) H locs := hw1
        refine lv_aload_n hx hb d_X_come_100 rfl (lv_at hl 0 rfl) ?_
        refine g_X_31 hx hb hts hown hK hw 0 rfl rfl d_X_come_101 ?_
        refine lv_aload_n hx hb d_X_come_104 rfl (lv_at hl 0 rfl) ?_
        refine g_X_99 hx hb hts hown hK hw 0 rfl rfl d_X_come_105 ?_
        refine lv_iload_n hx hb d_X_come_108 rfl (lv_at hl 2 rfl) ?_
        refine r_iast hx hb hK hw 4 rfl (by omega) (by omega) d_X_come_109 (fun H locs hw1 => ?_)
        replace hw : WW G A zs ([oX h0 [.int (nI n), .int (nI room), v2, v3, v4, v5, .ref qb, .ref qn, .int (nI ps.length), .ref (qa2 1), .ref (qa2 2), .ref (qa2 3), .ref (qa2 4), .ref (qa2 5), .ref (qa2 6), .int (nI E.length), v16, .ref (qa2 7), .int (-1), .int (nI 0), v20, .int (nI ag), v22, v23, .ref ho, .ref qm, .int (nI ((frm ps w).2))], aZ G qb 64 fb, aI G qn 96 fn, aJ G (qa2 1) (64 * 2 ^ jj) (vp_updL fm2 E.length (lN (pk (frm ps w).1))), aI G (qa2 2) (64 * 2 ^ jj) (upd (fs2 2) E.length fr), aI G (qa2 3) (64 * 2 ^ jj) (fs2 3), aI G (qa2 4) (64 * 2 ^ jj) (fs2 4), aI G (qa2 5) (64 * 2 ^ jj) (fs2 5), aI G (qa2 6) (64 * 2 ^ jj) (fs2 6), aI G (qa2 7) (2 ^ (8 + jj)) (upd (fs2 7) p (nI E.length)), oW hw0 [.ref qs, .ref qc, .int (nI w.2.length)], aI G qs 4 f, aI G qc 8 g, oW ho [.ref qs1, .ref qc1, z2], aI G qs1 4 f12, aI G qc1 8 g12, aI G qm 4 fk2]) H locs := hw1
        refine lv_aload_n hx hb d_X_come_110 rfl (lv_at hl 0 rfl) ?_
        refine g_X_34 hx hb hts hown hK hw 0 rfl rfl d_X_come_111 ?_
        refine lv_aload_n hx hb d_X_come_114 rfl (lv_at hl 0 rfl) ?_
        refine g_X_99 hx hb hts hown hK hw 0 rfl rfl d_X_come_115 ?_
        refine lv_iload_n hx hb d_X_come_118 rfl (lv_at hl 3 rfl) ?_
        refine r_iast hx hb hK hw 5 rfl (by omega) (by omega) d_X_come_119 (fun H locs hw1 => ?_)
        replace hw : WW G A zs ([oX h0 [.int (nI n), .int (nI room), v2, v3, v4, v5, .ref qb, .ref qn, .int (nI ps.length), .ref (qa2 1), .ref (qa2 2), .ref (qa2 3), .ref (qa2 4), .ref (qa2 5), .ref (qa2 6), .int (nI E.length), v16, .ref (qa2 7), .int (-1), .int (nI 0), v20, .int (nI ag), v22, v23, .ref ho, .ref qm, .int (nI ((frm ps w).2))], aZ G qb 64 fb, aI G qn 96 fn, aJ G (qa2 1) (64 * 2 ^ jj) (vp_updL fm2 E.length (lN (pk (frm ps w).1))), aI G (qa2 2) (64 * 2 ^ jj) (upd (fs2 2) E.length fr), aI G (qa2 3) (64 * 2 ^ jj) (upd (fs2 3) E.length ru), aI G (qa2 4) (64 * 2 ^ jj) (fs2 4), aI G (qa2 5) (64 * 2 ^ jj) (fs2 5), aI G (qa2 6) (64 * 2 ^ jj) (fs2 6), aI G (qa2 7) (2 ^ (8 + jj)) (upd (fs2 7) p (nI E.length)), oW hw0 [.ref qs, .ref qc, .int (nI w.2.length)], aI G qs 4 f, aI G qc 8 g, oW ho [.ref qs1, .ref qc1, z2], aI G qs1 4 f12, aI G qc1 8 g12, aI G qm 4 fk2]) H locs := hw1
        have Lp145 : ∀ (lv : Nat), (lv = lvA E fr) → ∀ (H : Heap) (locs : List Loc) (ls : Array Slot), lv_has ls 7 [(0, .ref h0), (1, .ref hw0)] → WW G A zs ([oX h0 [.int (nI n), .int (nI room), v2, v3, v4, v5, .ref qb, .ref qn, .int (nI ps.length), .ref (qa2 1), .ref (qa2 2), .ref (qa2 3), .ref (qa2 4), .ref (qa2 5), .ref (qa2 6), .int (nI E.length), v16, .ref (qa2 7), .int (-1), .int (nI 0), v20, .int (nI ag), v22, v23, .ref ho, .ref qm, .int (nI ((frm ps w).2))], aZ G qb 64 fb, aI G qn 96 fn, aJ G (qa2 1) (64 * 2 ^ jj) (vp_updL fm2 E.length (lN (pk (frm ps w).1))), aI G (qa2 2) (64 * 2 ^ jj) (upd (fs2 2) E.length fr), aI G (qa2 3) (64 * 2 ^ jj) (upd (fs2 3) E.length ru), aI G (qa2 4) (64 * 2 ^ jj) (fs2 4), aI G (qa2 5) (64 * 2 ^ jj) (fs2 5), aI G (qa2 6) (64 * 2 ^ jj) (fs2 6), aI G (qa2 7) (2 ^ (8 + jj)) (upd (fs2 7) p (nI E.length)), oW hw0 [.ref qs, .ref qc, .int (nI w.2.length)], aI G qs 4 f, aI G qc 8 g, oW ho [.ref qs1, .ref qc1, z2], aI G qs1 4 f12, aI G qc1 8 g12, aI G qm 4 fk2]) H locs → W zp zl ze R zs zm args below meth zc H locs (7 * (jx j (E ++ [((frm ps w).1, fr, ru, lvA E fr, (frm ps w).2)]).length - j)) (1280 * 2 ^ jx j (E ++ [((frm ps w).1, fr, ru, lvA E fr, (frm ps w).2)]).length - 1280 * 2 ^ j) Q (F0 zm 145 ls [.int (nI lv), .int (nI E.length), .ref (qa2 4)]) := by
          intro lv hlv H locs ls hl hw
          refine r_iast hx hb hK hw 6 rfl (by omega) (by omega) d_X_come_145 (fun H locs hw1 => ?_)
          replace hw : WW G A zs ([oX h0 [.int (nI n), .int (nI room), v2, v3, v4, v5, .ref qb, .ref qn, .int (nI ps.length), .ref (qa2 1), .ref (qa2 2), .ref (qa2 3), .ref (qa2 4), .ref (qa2 5), .ref (qa2 6), .int (nI E.length), v16, .ref (qa2 7), .int (-1), .int (nI 0), v20, .int (nI ag), v22, v23, .ref ho, .ref qm, .int (nI ((frm ps w).2))], aZ G qb 64 fb, aI G qn 96 fn, aJ G (qa2 1) (64 * 2 ^ jj) (vp_updL fm2 E.length (lN (pk (frm ps w).1))), aI G (qa2 2) (64 * 2 ^ jj) (upd (fs2 2) E.length fr), aI G (qa2 3) (64 * 2 ^ jj) (upd (fs2 3) E.length ru), aI G (qa2 4) (64 * 2 ^ jj) (upd (fs2 4) E.length (nI lv)), aI G (qa2 5) (64 * 2 ^ jj) (fs2 5), aI G (qa2 6) (64 * 2 ^ jj) (fs2 6), aI G (qa2 7) (2 ^ (8 + jj)) (upd (fs2 7) p (nI E.length)), oW hw0 [.ref qs, .ref qc, .int (nI w.2.length)], aI G qs 4 f, aI G qc 8 g, oW ho [.ref qs1, .ref qc1, z2], aI G qs1 4 f12, aI G qc1 8 g12, aI G qm 4 fk2]) H locs := hw1
          refine lv_aload_n hx hb d_X_come_146 rfl (lv_at hl 0 rfl) ?_
          refine g_X_40 hx hb hts hown hK hw 0 rfl rfl d_X_come_147 ?_
          refine lv_aload_n hx hb d_X_come_150 rfl (lv_at hl 0 rfl) ?_
          refine g_X_99 hx hb hts hown hK hw 0 rfl rfl d_X_come_151 ?_
          refine lv_iconst (v := -1) hx hb d_X_come_154 (by decide) ?_
          refine r_iast hx hb hK hw 7 rfl (by omega) (by omega) d_X_come_155 (fun H locs hw1 => ?_)
          replace hw : WW G A zs ([oX h0 [.int (nI n), .int (nI room), v2, v3, v4, v5, .ref qb, .ref qn, .int (nI ps.length), .ref (qa2 1), .ref (qa2 2), .ref (qa2 3), .ref (qa2 4), .ref (qa2 5), .ref (qa2 6), .int (nI E.length), v16, .ref (qa2 7), .int (-1), .int (nI 0), v20, .int (nI ag), v22, v23, .ref ho, .ref qm, .int (nI ((frm ps w).2))], aZ G qb 64 fb, aI G qn 96 fn, aJ G (qa2 1) (64 * 2 ^ jj) (vp_updL fm2 E.length (lN (pk (frm ps w).1))), aI G (qa2 2) (64 * 2 ^ jj) (upd (fs2 2) E.length fr), aI G (qa2 3) (64 * 2 ^ jj) (upd (fs2 3) E.length ru), aI G (qa2 4) (64 * 2 ^ jj) (upd (fs2 4) E.length (nI lv)), aI G (qa2 5) (64 * 2 ^ jj) (upd (fs2 5) E.length (-1)), aI G (qa2 6) (64 * 2 ^ jj) (fs2 6), aI G (qa2 7) (2 ^ (8 + jj)) (upd (fs2 7) p (nI E.length)), oW hw0 [.ref qs, .ref qc, .int (nI w.2.length)], aI G qs 4 f, aI G qc 8 g, oW ho [.ref qs1, .ref qc1, z2], aI G qs1 4 f12, aI G qc1 8 g12, aI G qm 4 fk2]) H locs := hw1
          refine lv_aload_n hx hb d_X_come_156 rfl (lv_at hl 0 rfl) ?_
          refine g_X_43 hx hb hts hown hK hw 0 rfl rfl d_X_come_157 ?_
          refine lv_aload_n hx hb d_X_come_160 rfl (lv_at hl 0 rfl) ?_
          refine g_X_99 hx hb hts hown hK hw 0 rfl rfl d_X_come_161 ?_
          refine lv_aload_n hx hb d_X_come_164 rfl (lv_at hl 0 rfl) ?_
          refine g_X_144 hx hb hts hown hK hw 0 rfl rfl d_X_come_165 ?_
          refine r_iast hx hb hK hw 8 rfl (by omega) (by omega) d_X_come_168 (fun H locs hw1 => ?_)
          replace hw : WW G A zs ([oX h0 [.int (nI n), .int (nI room), v2, v3, v4, v5, .ref qb, .ref qn, .int (nI ps.length), .ref (qa2 1), .ref (qa2 2), .ref (qa2 3), .ref (qa2 4), .ref (qa2 5), .ref (qa2 6), .int (nI E.length), v16, .ref (qa2 7), .int (-1), .int (nI 0), v20, .int (nI ag), v22, v23, .ref ho, .ref qm, .int (nI ((frm ps w).2))], aZ G qb 64 fb, aI G qn 96 fn, aJ G (qa2 1) (64 * 2 ^ jj) (vp_updL fm2 E.length (lN (pk (frm ps w).1))), aI G (qa2 2) (64 * 2 ^ jj) (upd (fs2 2) E.length fr), aI G (qa2 3) (64 * 2 ^ jj) (upd (fs2 3) E.length ru), aI G (qa2 4) (64 * 2 ^ jj) (upd (fs2 4) E.length (nI lv)), aI G (qa2 5) (64 * 2 ^ jj) (upd (fs2 5) E.length (-1)), aI G (qa2 6) (64 * 2 ^ jj) (upd (fs2 6) E.length (nI ((frm ps w).2))), aI G (qa2 7) (2 ^ (8 + jj)) (upd (fs2 7) p (nI E.length)), oW hw0 [.ref qs, .ref qc, .int (nI w.2.length)], aI G qs 4 f, aI G qc 8 g, oW ho [.ref qs1, .ref qc1, z2], aI G qs1 4 f12, aI G qc1 8 g12, aI G qm 4 fk2]) H locs := hw1
          have Lp186 : ∀ (bo : Int32), (bo = boF ov1 (E ++ [((frm ps w).1, fr, ru, lvA E fr, (frm ps w).2)]).length) → ∀ (H : Heap) (locs : List Loc) (ls : Array Slot), lv_has ls 7 [(0, .ref h0)] → WW G A zs ([oX h0 [.int (nI n), .int (nI room), v2, v3, v4, v5, .ref qb, .ref qn, .int (nI ps.length), .ref (qa2 1), .ref (qa2 2), .ref (qa2 3), .ref (qa2 4), .ref (qa2 5), .ref (qa2 6), .int (nI E.length), v16, .ref (qa2 7), .int (-1), .int (nI 0), v20, .int (nI ag), v22, v23, .ref ho, .ref qm, .int (nI ((frm ps w).2))], aZ G qb 64 fb, aI G qn 96 fn, aJ G (qa2 1) (64 * 2 ^ jj) (vp_updL fm2 E.length (lN (pk (frm ps w).1))), aI G (qa2 2) (64 * 2 ^ jj) (upd (fs2 2) E.length fr), aI G (qa2 3) (64 * 2 ^ jj) (upd (fs2 3) E.length ru), aI G (qa2 4) (64 * 2 ^ jj) (upd (fs2 4) E.length (nI lv)), aI G (qa2 5) (64 * 2 ^ jj) (upd (fs2 5) E.length (-1)), aI G (qa2 6) (64 * 2 ^ jj) (upd (fs2 6) E.length (nI ((frm ps w).2))), aI G (qa2 7) (2 ^ (8 + jj)) (upd (fs2 7) p (nI E.length)), oW hw0 [.ref qs, .ref qc, .int (nI w.2.length)], aI G qs 4 f, aI G qc 8 g, oW ho [.ref qs1, .ref qc1, z2], aI G qs1 4 f12, aI G qc1 8 g12, aI G qm 4 fk2]) H locs → W zp zl ze R zs zm args below meth zc H locs (7 * (jx j (E ++ [((frm ps w).1, fr, ru, lvA E fr, (frm ps w).2)]).length - j)) (1280 * 2 ^ jx j (E ++ [((frm ps w).1, fr, ru, lvA E fr, (frm ps w).2)]).length - 1280 * 2 ^ j) Q (F0 zm 186 ls [.int bo, .ref h0]) := by
            intro bo hbo H locs ls hl hw
            refine p_X_49 hx hb hts hown hK hw 0 rfl (Nat.le_of_ble_eq_true rfl) d_X_come_186 (fun H locs hw1 => ?_)
            replace hw : WW G A zs ([oX h0 [.int (nI n), .int (nI room), v2, v3, v4, v5, .ref qb, .ref qn, .int (nI ps.length), .ref (qa2 1), .ref (qa2 2), .ref (qa2 3), .ref (qa2 4), .ref (qa2 5), .ref (qa2 6), .int (nI E.length), v16, .ref (qa2 7), .int bo, .int (nI 0), v20, .int (nI ag), v22, v23, .ref ho, .ref qm, .int (nI ((frm ps w).2))], aZ G qb 64 fb, aI G qn 96 fn, aJ G (qa2 1) (64 * 2 ^ jj) (vp_updL fm2 E.length (lN (pk (frm ps w).1))), aI G (qa2 2) (64 * 2 ^ jj) (upd (fs2 2) E.length fr), aI G (qa2 3) (64 * 2 ^ jj) (upd (fs2 3) E.length ru), aI G (qa2 4) (64 * 2 ^ jj) (upd (fs2 4) E.length (nI lv)), aI G (qa2 5) (64 * 2 ^ jj) (upd (fs2 5) E.length (-1)), aI G (qa2 6) (64 * 2 ^ jj) (upd (fs2 6) E.length (nI ((frm ps w).2))), aI G (qa2 7) (2 ^ (8 + jj)) (upd (fs2 7) p (nI E.length)), oW hw0 [.ref qs, .ref qc, .int (nI w.2.length)], aI G qs 4 f, aI G qc 8 g, oW ho [.ref qs1, .ref qc1, z2], aI G qs1 4 f12, aI G qc1 8 g12, aI G qm 4 fk2]) H locs := hw1
            refine lv_aload_n hx hb d_X_come_189 rfl (lv_at hl 0 rfl) ?_
            refine lv_dup hx hb d_X_come_190 rfl ?_
            refine g_X_99 hx hb hts hown hK hw 0 rfl rfl d_X_come_191 ?_
            refine lv_iconst (v := nI 1) hx hb d_X_come_194 rfl ?_
            refine r_iaddN hx hb d_X_come_195 ?_
            refine r_eq (show nI (E.length + 1) = nI ((E ++ [((frm ps w).1, fr, ru, lvA E fr, (frm ps w).2)]).length) from congrArg nI hEl.symm) ?_
            refine p_X_99 hx hb hts hown hK hw 0 rfl (Nat.le_of_ble_eq_true rfl) d_X_come_196 (fun H locs hw1 => ?_)
            replace hw : WW G A zs ([oX h0 [.int (nI n), .int (nI room), v2, v3, v4, v5, .ref qb, .ref qn, .int (nI ps.length), .ref (qa2 1), .ref (qa2 2), .ref (qa2 3), .ref (qa2 4), .ref (qa2 5), .ref (qa2 6), .int (nI ((E ++ [((frm ps w).1, fr, ru, lvA E fr, (frm ps w).2)]).length)), v16, .ref (qa2 7), .int bo, .int (nI 0), v20, .int (nI ag), v22, v23, .ref ho, .ref qm, .int (nI ((frm ps w).2))], aZ G qb 64 fb, aI G qn 96 fn, aJ G (qa2 1) (64 * 2 ^ jj) (vp_updL fm2 E.length (lN (pk (frm ps w).1))), aI G (qa2 2) (64 * 2 ^ jj) (upd (fs2 2) E.length fr), aI G (qa2 3) (64 * 2 ^ jj) (upd (fs2 3) E.length ru), aI G (qa2 4) (64 * 2 ^ jj) (upd (fs2 4) E.length (nI lv)), aI G (qa2 5) (64 * 2 ^ jj) (upd (fs2 5) E.length (-1)), aI G (qa2 6) (64 * 2 ^ jj) (upd (fs2 6) E.length (nI ((frm ps w).2))), aI G (qa2 7) (2 ^ (8 + jj)) (upd (fs2 7) p (nI E.length)), oW hw0 [.ref qs, .ref qc, .int (nI w.2.length)], aI G qs 4 f, aI G qc 8 g, oW ho [.ref qs1, .ref qc1, z2], aI G qs1 4 f12, aI G qc1 8 g12, aI G qm 4 fk2]) H locs := hw1
            rw [hbo, ← hjx] at hw
            exact r_ret hQ (r_vret (qa2, _, sel7 (fun _ => 0) (upd (fs2 2) E.length fr) (upd (fs2 3) E.length ru) (upd (fs2 4) E.length (nI lv)) (upd (fs2 5) E.length (-1)) (upd (fs2 6) E.length (nI (frm ps w).2)) (upd (fs2 7) p (nI E.length)), fk2, z2, f12, g12, _, boF ov1 (E ++ [((frm ps w).1, fr, ru, lvA E fr, (frm ps w).2)]).length, nI 0) hx hb hr hlk hw (come_post hlv hX2 hT2 hR2 hnm hs5 hov hjx (by omega)) (by omega) (by omega) d_X_come_199)
          refine lv_aload_n hx hb d_X_come_169 rfl (lv_at hl 0 rfl) ?_
          refine lv_aload_n hx hb d_X_come_170 rfl (lv_at hl 0 rfl) ?_
          refine lv_aload_n hx hb d_X_come_171 rfl (lv_at hl 1 rfl) ?_
          refine xV_i (rest := [.ref h0]) (As := [.ref hw0]) hx hb hml hown hts hK hA hw k_X_189 (c_X_isBad zl G h0 qb hw0 qs qc n (.int (nI room)) v2 v3 v4 v5 (.ref qn) (.int (nI ps.length)) (.ref (qa2 1)) (.ref (qa2 2)) (.ref (qa2 3)) (.ref (qa2 4)) (.ref (qa2 5)) (.ref (qa2 6)) (.int (nI E.length)) v16 (.ref (qa2 7)) (.int (-1)) (.int (nI 0)) v20 (.int (nI ag)) v22 v23 (.ref ho) (.ref qm) (.int (nI ((frm ps w).2))) fb f B w hn4 hV hf hB) [0, 1, 10, 11] rfl rfl (fun _ => Nat.le_of_ble_eq_true rfl) 0 rfl rfl rfl rfl hl.1 (Nat.le_of_ble_eq_true rfl) ⟨(by omega), (by omega)⟩ ⟨(by omega), (by omega)⟩ d_X_come_172 (fun r u H locs hp hw1 => ?_)
          refine W.cs (cells' := 7 * (jx j (E ++ [((frm ps w).1, fr, ru, lvA E fr, (frm ps w).2)]).length - j)) (slots' := 1280 * 2 ^ jx j (E ++ [((frm ps w).1, fr, ru, lvA E fr, (frm ps w).2)]).length - 1280 * 2 ^ j) rfl rfl ?_
          replace hw : WW G A zs ([oX h0 [.int (nI n), .int (nI room), v2, v3, v4, v5, .ref qb, .ref qn, .int (nI ps.length), .ref (qa2 1), .ref (qa2 2), .ref (qa2 3), .ref (qa2 4), .ref (qa2 5), .ref (qa2 6), .int (nI E.length), v16, .ref (qa2 7), .int (-1), .int (nI 0), v20, .int (nI ag), v22, v23, .ref ho, .ref qm, .int (nI ((frm ps w).2))], aZ G qb 64 fb, aI G qn 96 fn, aJ G (qa2 1) (64 * 2 ^ jj) (vp_updL fm2 E.length (lN (pk (frm ps w).1))), aI G (qa2 2) (64 * 2 ^ jj) (upd (fs2 2) E.length fr), aI G (qa2 3) (64 * 2 ^ jj) (upd (fs2 3) E.length ru), aI G (qa2 4) (64 * 2 ^ jj) (upd (fs2 4) E.length (nI lv)), aI G (qa2 5) (64 * 2 ^ jj) (upd (fs2 5) E.length (-1)), aI G (qa2 6) (64 * 2 ^ jj) (upd (fs2 6) E.length (nI ((frm ps w).2))), aI G (qa2 7) (2 ^ (8 + jj)) (upd (fs2 7) p (nI E.length)), oW hw0 [.ref qs, .ref qc, .int (nI w.2.length)], aI G qs 4 f, aI G qc 8 g, oW ho [.ref qs1, .ref qc1, z2], aI G qs1 4 f12, aI G qc1 8 g12, aI G qm 4 fk2]) H locs := hw1
          refine lv_if_eq (tgt := 185) hx hb d_X_come_175 (by decide) (fun c_175 => ?_) (fun c_175 => ?_)
          · skip
            refine lv_iconst (v := -1) hx hb d_X_come_185 (by decide) ?_
            refine W.widen (k := 7 * (jx j (E ++ [((frm ps w).1, fr, ru, lvA E fr, (frm ps w).2)]).length - j)) (n := 1280 * 2 ^ jx j (E ++ [((frm ps w).1, fr, ru, lvA E fr, (frm ps w).2)]).length - 1280 * 2 ^ j) (by omega) (by omega) ?_
            exact Lp186 (-1) (by rcases hp with ⟨h1, h2⟩ | ⟨h1, h2⟩; exact absurd (h1.symm.trans c_175) (by decide); rw [← hov, if_neg (fun z => h2 (badB_iff.mp z))]; rfl) _ _ _ (lv_sub hl [0] rfl) hw
          · skip
            refine lv_aload_n hx hb d_X_come_178 rfl (lv_at hl 0 rfl) ?_
            refine g_X_99 hx hb hts hown hK hw 0 rfl rfl d_X_come_179 ?_
            refine lv_goto (tgt := 186) hx hb d_X_come_182 (by decide) ?_
            refine W.widen (k := 7 * (jx j (E ++ [((frm ps w).1, fr, ru, lvA E fr, (frm ps w).2)]).length - j)) (n := 1280 * 2 ^ jx j (E ++ [((frm ps w).1, fr, ru, lvA E fr, (frm ps w).2)]).length - 1280 * 2 ^ j) (by omega) (by omega) ?_
            exact Lp186 (nI E.length) (by rcases hp with ⟨h1, h2⟩ | ⟨h1, h2⟩; rw [hEl, ← hov, if_pos (badB_iff.mpr h2)]; rfl; exact absurd (by rw [h1]; rfl) c_175) _ _ _ (lv_sub hl [0] rfl) hw
        refine lv_aload_n hx hb d_X_come_120 rfl (lv_at hl 0 rfl) ?_
        refine g_X_37 hx hb hts hown hK hw 0 rfl rfl d_X_come_121 ?_
        refine lv_aload_n hx hb d_X_come_124 rfl (lv_at hl 0 rfl) ?_
        refine g_X_99 hx hb hts hown hK hw 0 rfl rfl d_X_come_125 ?_
        refine lv_iload_n hx hb d_X_come_128 rfl (lv_at hl 2 rfl) ?_
        refine lv_iconst (v := -1) hx hb d_X_come_129 (by decide) ?_
        refine lv_icmp_ne (tgt := 137) hx hb d_X_come_130 (by decide) (fun c_130 => ?_) (fun c_130 => ?_)
        · skip
          refine lv_aload_n hx hb d_X_come_137 rfl (lv_at hl 0 rfl) ?_
          refine g_X_37 hx hb hts hown hK hw 0 rfl rfl d_X_come_138 ?_
          obtain ⟨i2, hi3, hi2⟩ := hfr.resolve_left c_130
          refine lv_iload_n hx hb d_X_come_141 rfl (lv_at hl 2 rfl) ?_
          refine r_eq (show fr = nI i2 from hi2) ?_
          refine r_iald hx hb hK hw 6 rfl (by omega) (by omega) d_X_come_142 ?_
          refine r_eq (show (fs2 4) i2 = nI ((E.getD i2 eD).2.2.2.1) from (hX2 i2 hi3).2.2.2.1) ?_
          refine lv_iconst (v := nI 1) hx hb d_X_come_143 rfl ?_
          refine r_iaddN hx hb d_X_come_144 ?_
          refine W.widen (k := 7 * (jx j (E ++ [((frm ps w).1, fr, ru, lvA E fr, (frm ps w).2)]).length - j)) (n := 1280 * 2 ^ jx j (E ++ [((frm ps w).1, fr, ru, lvA E fr, (frm ps w).2)]).length - 1280 * 2 ^ j) (by omega) (by omega) ?_
          exact Lp145 (((E.getD i2 eD).2.2.2.1) + 1) (by unfold lvA; rw [if_neg c_130, hi2, nI_clamp (by omega)]) _ _ _ (lv_sub hl [0, 1] rfl) hw
        · skip
          refine lv_iconst (v := nI 0) hx hb d_X_come_133 rfl ?_
          refine lv_goto (tgt := 145) hx hb d_X_come_134 (by decide) ?_
          refine W.widen (k := 7 * (jx j (E ++ [((frm ps w).1, fr, ru, lvA E fr, (frm ps w).2)]).length - j)) (n := 1280 * 2 ^ jx j (E ++ [((frm ps w).1, fr, ru, lvA E fr, (frm ps w).2)]).length - 1280 * 2 ^ j) (by omega) (by omega) ?_
          exact Lp145 0 (by unfold lvA; rw [if_pos c_130]) _ _ _ (lv_sub hl [0, 1] rfl) hw
      refine lv_aload_n hx hb d_X_come_54 rfl (lv_at hl 2 rfl) ?_
      refine g_X_99 hx hb hts hown hK hw 0 rfl rfl d_X_come_55 ?_
      refine lv_aload_n hx hb d_X_come_58 rfl (lv_at hl 2 rfl) ?_
      refine g_X_27 hx hb hts hown hK hw 0 rfl rfl d_X_come_59 ?_
      refine r_alenJ hx hb hK hw 3 rfl d_X_come_62 ?_
      refine r_icmp_ne (tgt := 78) hx hb (by omega) (by omega) d_X_come_63 (by decide) (fun c_63 => ?_) (fun c_63 => ?_)
      · skip
        refine W.widen (k := 7 * (jx j (E ++ [((frm ps w).1, fr, ru, lvA E fr, (frm ps w).2)]).length - j)) (n := 1280 * 2 ^ jx j (E ++ [((frm ps w).1, fr, ru, lvA E fr, (frm ps w).2)]).length - 1280 * 2 ^ j) (by omega) (by omega) ?_
        exact Lp78 j qa fm fs p (by rw [hEl]; exact jx_in (by omega) hj7) hX hT hp1 hFR (fun _ _ => rfl) (by omega) _ _ _ (lv_sub hl [2, 3, 4, 5, 1, 0] rfl) hw
      · skip
        have hj6 : j < 7 := j_lt7 hj7 (by omega)
        have hjx : jx j (E ++ [((frm ps w).1, fr, ru, lvA E fr, (frm ps w).2)]).length = j + 1 := by rw [hEl, c_63]; exact jx_next hj6
        have hps : 2 ^ (j + 1) = 2 * 2 ^ j := by rw [Nat.pow_succ]; omega
        rw [hjx] at hRc hRs
        have hps9 : 1280 * 2 ^ (j + 1) - 1280 * 2 ^ j = 20 * E.length := by omega
        refine lv_aload_n hx hb d_X_come_66 rfl (lv_at hl 2 rfl) ?_
        rw [← c_63] at hw
        refine xV_v (rest := []) (As := []) hx hb hml hown hts hK hA hw k_X_186 (c_X_grow zl G h0 (qa 1) (qa 2) (qa 3) (qa 4) (qa 5) (qa 6) (qa 7) (8 + j) E.length (.int (nI n)) (.int (nI room)) v2 v3 v4 v5 (.ref qb) (.ref qn) (.int (nI ps.length)) v16 (.int (-1)) (.int (nI 0)) v20 (.int (nI ag)) v22 v23 (.ref ho) (.ref qm) (.int (nI ((frm ps w).2))) fm (fs 2) (fs 3) (fs 4) (fs 5) (fs 6) (fs 7) (by rw [c_63, hpe]; omega) (pow_mono (a := 8 + j + 1) (b := 16) (by omega)) (by omega) (fm_ne hX hE)) [0, 3, 4, 5, 6, 7, 8, 9] rfl rfl (fun _ => Nat.le_of_ble_eq_true rfl) 0 rfl rfl rfl rfl hl.1 (Nat.le_of_ble_eq_true rfl) ⟨(by omega), (by omega)⟩ ⟨(by omega), (by omega)⟩ d_X_come_67 (fun _ u3 H locs hp hw1 => ?_)
        obtain ⟨p1, p2, p3, p4, p5, p6, p7, tb2⟩ := u3
        obtain ⟨qa2, eq2⟩ : ∃ g : Nat → Nat, g = sel7 p1 p2 p3 p4 p5 p6 p7 := ⟨_, rfl⟩
        obtain ⟨fm2, efm2⟩ : ∃ g : Nat → Int64, g = va_cpy fm (fun _ => 0) 0 0 E.length := ⟨_, rfl⟩
        obtain ⟨fs2, efs2⟩ : ∃ g : Nat → Nat → Int32, g = sel7 (fun _ => 0) (va_cpy (fs 2) (fun _ => 0) 0 0 E.length) (va_cpy (fs 3) (fun _ => 0) 0 0 E.length) (va_cpy (fs 4) (fun _ => 0) 0 0 E.length) (va_cpy (fs 5) (fun _ => 0) 0 0 E.length) (va_cpy (fs 6) (fun _ => 0) 0 0 E.length) tb2 := ⟨_, rfl⟩
        have hT2 : TInv (8 + (j + 1)) (fs2 7) fm2 E.length := by rw [efs2, efm2]; exact hp
        have hX2 : XE E fm2 (fs2 2) (fs2 3) (fs2 4) (fs2 6) := by rw [efs2, efm2]; exact hX.copy _ rfl
        have hs5 : ∀ k, k < E.length → fs2 5 k = fs 5 k := by rw [efs2]; exact cpy0
        have hln2 : 2 * E.length = 64 * 2 ^ (j + 1) := by rw [c_63, Nat.pow_succ]; omega
        replace hw : WW G A zs ([oX h0 [.int (nI n), .int (nI room), v2, v3, v4, v5, .ref qb, .ref qn, .int (nI ps.length), .ref (qa2 1), .ref (qa2 2), .ref (qa2 3), .ref (qa2 4), .ref (qa2 5), .ref (qa2 6), .int (nI E.length), v16, .ref (qa2 7), .int (-1), .int (nI 0), v20, .int (nI ag), v22, v23, .ref ho, .ref qm, .int (nI ((frm ps w).2))], aZ G qb 64 fb, aI G qn 96 fn, aJ G (qa2 1) (64 * 2 ^ (j + 1)) fm2, aI G (qa2 2) (64 * 2 ^ (j + 1)) (fs2 2), aI G (qa2 3) (64 * 2 ^ (j + 1)) (fs2 3), aI G (qa2 4) (64 * 2 ^ (j + 1)) (fs2 4), aI G (qa2 5) (64 * 2 ^ (j + 1)) (fs2 5), aI G (qa2 6) (64 * 2 ^ (j + 1)) (fs2 6), aI G (qa2 7) (2 ^ (8 + (j + 1))) (fs2 7), oW hw0 [.ref qs, .ref qc, .int (nI w.2.length)], aI G qs 4 f, aI G qc 8 g, oW ho [.ref qs1, .ref qc1, z2], aI G qs1 4 f12, aI G qc1 8 g12, aI G qm 4 fk2]) H locs := by rw [eq2, efm2, efs2, ← hln2]; exact hw1
        have hpe2 : 2 ^ (8 + (j + 1)) = 256 * 2 ^ (j + 1) := by rw [Nat.pow_add]
        have hjp : 2 ^ jx j (E ++ [((frm ps w).1, fr, ru, lvA E fr, (frm ps w).2)]).length = 2 ^ (j + 1) := by rw [hjx]
        refine lv_aload_n hx hb d_X_come_70 rfl (lv_at hl 2 rfl) ?_
        refine lv_lload hx hb d_X_come_71 (lv_at hl 1 rfl) ?_
        refine xV_i (rest := []) (As := [.long (lN (pk (frm ps w).1))]) hx hb hml hown hts hK hA hw k_X_177 (c_X_find zl G h0 (qa2 7) (qa2 1) (8 + (j + 1)) (64 * 2 ^ (j + 1)) E.length (.int (nI n)) (.int (nI room)) v2 v3 v4 v5 (.ref qb) (.ref qn) (.int (nI ps.length)) (.ref (qa2 2)) (.ref (qa2 3)) (.ref (qa2 4)) (.ref (qa2 5)) (.ref (qa2 6)) (.int (nI E.length)) v16 (.int (-1)) (.int (nI 0)) v20 (.int (nI ag)) v22 v23 (.ref ho) (.ref qm) (.int (nI ((frm ps w).2))) (fs2 7) fm2 (lN (pk (frm ps w).1)) (pow_mono (a := 8 + (j + 1)) (b := 16) (by omega)) (by omega) (by omega) (by omega) (by omega) (by omega) hT2) [0, 9, 3] rfl rfl (fun _ => Nat.le_of_ble_eq_true rfl) 0 rfl rfl rfl rfl hl.1 (Nat.le_of_ble_eq_true rfl) ⟨(by omega), (by omega)⟩ ⟨(by omega), (by omega)⟩ d_X_come_73 (fun r p2 H locs hp hw1 => ?_)
        obtain ⟨rfl, hR2⟩ := hp
        refine W.cs (cells' := 0 + 7) (slots' := 0 + (20 * E.length)) rfl rfl ?_
        replace hw : WW G A zs ([oX h0 [.int (nI n), .int (nI room), v2, v3, v4, v5, .ref qb, .ref qn, .int (nI ps.length), .ref (qa2 1), .ref (qa2 2), .ref (qa2 3), .ref (qa2 4), .ref (qa2 5), .ref (qa2 6), .int (nI E.length), v16, .ref (qa2 7), .int (-1), .int (nI 0), v20, .int (nI ag), v22, v23, .ref ho, .ref qm, .int (nI ((frm ps w).2))], aZ G qb 64 fb, aI G qn 96 fn, aJ G (qa2 1) (64 * 2 ^ (j + 1)) fm2, aI G (qa2 2) (64 * 2 ^ (j + 1)) (fs2 2), aI G (qa2 3) (64 * 2 ^ (j + 1)) (fs2 3), aI G (qa2 4) (64 * 2 ^ (j + 1)) (fs2 4), aI G (qa2 5) (64 * 2 ^ (j + 1)) (fs2 5), aI G (qa2 6) (64 * 2 ^ (j + 1)) (fs2 6), aI G (qa2 7) (2 ^ (8 + (j + 1))) (fs2 7), oW hw0 [.ref qs, .ref qc, .int (nI w.2.length)], aI G qs 4 f, aI G qc 8 g, oW ho [.ref qs1, .ref qc1, z2], aI G qs1 4 f12, aI G qc1 8 g12, aI G qm 4 fk2]) H locs := hw1
        refine lv_istore (lv' := [(6, .int (nI p2)), (4, .long (lN (pk (frm ps w).1))), (0, .ref h0), (1, .ref hw0), (2, .int fr), (3, .int ru)]) hx hb d_X_come_76 hl (by decide) rfl (fun ls hl => ?_)
        refine W.widen (k := 7 * (jx j (E ++ [((frm ps w).1, fr, ru, lvA E fr, (frm ps w).2)]).length - j)) (n := 1280 * 2 ^ jx j (E ++ [((frm ps w).1, fr, ru, lvA E fr, (frm ps w).2)]).length - 1280 * 2 ^ j) (by omega) (by omega) ?_
        exact Lp78 (j + 1) qa2 fm2 fs2 p2 hjx hX2 hT2 hR2.1 hR2 hs5 (by omega) _ _ _ (lv_sub hl [2, 3, 4, 5, 1, 0] rfl) hw
    · skip
      obtain ⟨rfl, rfl, rfl⟩ := tri_eq ((come_full hnin c_45).symm.trans hc)
      have hjj := jx_in hlen hj7
      refine lv_aload_n hx hb d_X_come_48 rfl (lv_at hl 2 rfl) ?_
      refine lv_iconst (v := nI 1) hx hb d_X_come_49 rfl ?_
      refine p_X_105 hx hb hts hown hK hw 0 rfl (by decide) (by decide) (Nat.le_of_ble_eq_true rfl) d_X_come_50 (fun H locs hw1 => ?_)
      replace hw : WW G A zs ([oX h0 [.int (nI n), .int (nI room), v2, v3, v4, v5, .ref qb, .ref qn, .int (nI ps.length), .ref (qa 1), .ref (qa 2), .ref (qa 3), .ref (qa 4), .ref (qa 5), .ref (qa 6), .int (nI E.length), v16, .ref (qa 7), .int (-1), .int (nI 1), v20, .int (nI ag), v22, v23, .ref ho, .ref qm, .int (nI ((frm ps w).2))], aZ G qb 64 fb, aI G qn 96 fn, aJ G (qa 1) (64 * 2 ^ j) fm, aI G (qa 2) (64 * 2 ^ j) (fs 2), aI G (qa 3) (64 * 2 ^ j) (fs 3), aI G (qa 4) (64 * 2 ^ j) (fs 4), aI G (qa 5) (64 * 2 ^ j) (fs 5), aI G (qa 6) (64 * 2 ^ j) (fs 6), aI G (qa 7) (2 ^ (8 + j)) (fs 7), oW hw0 [.ref qs, .ref qc, .int (nI w.2.length)], aI G qs 4 f, aI G qc 8 g, oW ho [.ref qs1, .ref qc1, z2], aI G qs1 4 f12, aI G qc1 8 g12, aI G qm 4 fk2]) H locs := hw1
      rw [← hjj] at hw
      exact r_ret hQ (r_vret (qa, fm, fs, fk2, z2, f12, g12, _, -1, nI 1) hx hb hr hlk hw (⟨hX, by rw [hjj]; exact hT, fun _ _ => rfl, rfl, rfl⟩) (by omega) (by omega) d_X_come_53)
  · skip
    have hin2 : (frm ps w).1 ∈ E.map (fun e => e.1) := (find_in hX hE hVb rfl).mp (fr_old hFR c_23)
    obtain ⟨rfl, rfl, rfl⟩ := tri_eq ((come_again hin2).symm.trans hc)
    have hjj := jx_in hlen hj7
    refine lv_aload_n hx hb d_X_come_26 rfl (lv_at hl 2 rfl) ?_
    refine lv_dup hx hb d_X_come_27 rfl ?_
    refine g_X_112 hx hb hts hown hK hw 0 rfl rfl d_X_come_28 ?_
    refine lv_iconst (v := nI 1) hx hb d_X_come_31 rfl ?_
    refine r_iaddN hx hb d_X_come_32 ?_
    refine p_X_112 hx hb hts hown hK hw 0 rfl (Nat.le_of_ble_eq_true rfl) d_X_come_33 (fun H locs hw1 => ?_)
    replace hw : WW G A zs ([oX h0 [.int (nI n), .int (nI room), v2, v3, v4, v5, .ref qb, .ref qn, .int (nI ps.length), .ref (qa 1), .ref (qa 2), .ref (qa 3), .ref (qa 4), .ref (qa 5), .ref (qa 6), .int (nI E.length), v16, .ref (qa 7), .int (-1), .int (nI 0), v20, .int (nI (ag + 1)), v22, v23, .ref ho, .ref qm, .int (nI ((frm ps w).2))], aZ G qb 64 fb, aI G qn 96 fn, aJ G (qa 1) (64 * 2 ^ j) fm, aI G (qa 2) (64 * 2 ^ j) (fs 2), aI G (qa 3) (64 * 2 ^ j) (fs 3), aI G (qa 4) (64 * 2 ^ j) (fs 4), aI G (qa 5) (64 * 2 ^ j) (fs 5), aI G (qa 6) (64 * 2 ^ j) (fs 6), aI G (qa 7) (2 ^ (8 + j)) (fs 7), oW hw0 [.ref qs, .ref qc, .int (nI w.2.length)], aI G qs 4 f, aI G qc 8 g, oW ho [.ref qs1, .ref qc1, z2], aI G qs1 4 f12, aI G qc1 8 g12, aI G qm 4 fk2]) H locs := hw1
    rw [← hjj] at hw
    exact r_ret hQ (r_vret (qa, fm, fs, fk2, z2, f12, g12, _, -1, nI 0) hx hb hr hlk hw (⟨hX, by rw [hjj]; exact hT, fun _ _ => rfl, rfl, rfl⟩) (by omega) (by omega) d_X_come_36)
