theorem new_R : ∀ j, j < 6 → defaultValue (t_R j) = vp_V [.int 0, .int 0, .int 0, .null, .null, .int 0] j := fun j hj => by
  rcases (show j = 0 ∨ j = 1 ∨ j = 2 ∨ j = 3 ∨ j = 4 ∨ j = 5 by omega) with rfl | rfl | rfl | rfl | rfl | rfl <;> rfl
theorem new_W : ∀ j, j < 3 → defaultValue (t_W j) = vp_V [.null, .null, .int 0] j := fun j hj => by
  rcases (show j = 0 ∨ j = 1 ∨ j = 2 by omega) with rfl | rfl | rfl <;> rfl
theorem evI_ge (ev : Option Nat) {K : Nat} (h : ∀ k, ev = some k → k < K) (hK : K ≤ 6) : ¬ evI ev < -1 := by
  cases ev with
  | none => decide
  | some k =>
    have := h k rfl
    have h0 : (-1 : Int32) ≤ nI k := by
      rw [Int32.le_iff_toInt_le, nI_toInt (by omega)]
      have : (-1 : Int32).toInt = -1 := by decide
      omega
    exact Int32.not_lt.mpr h0
theorem evI_lt (ev : Option Nat) {K : Nat} (h : ∀ k, ev = some k → k < K) (hK : K ≤ 6) : ¬ nI K ≤ evI ev := by
  cases ev with
  | none =>
    intro z
    rw [Int32.le_iff_toInt_le, nI_toInt (by omega)] at z
    have : (evI none).toInt = -1 := by decide
    omega
  | some k => exact nI_ge (h k rfl) (by omega)
theorem send_ev {ev : Option Nat} {wh : Nat} (h : wh = 1 ∨ (wh = 0 ∧ ev ≠ none)) (h1 : wh ≠ 1) (hk : ∀ k, ev = some k → k < 6) : ¬ evI ev = -1 := by
  rcases h with h | ⟨-, h⟩
  · exact absurd h h1
  · cases ev with
    | none => exact absurd rfl h
    | some k => exact nI_neg (Nat.lt_of_lt_of_le (hk k rfl) (by decide))
def upB (B : Nat → Bool) (i j : Nat) : Nat → Bool := fun k => if k = i ∨ k = j then true else B k
theorem bad_t {fb : Nat → Int32} {B : Nat → Bool} {i j : Nat} (hB : ∀ i, i < 64 → fb i = if B i = true then nI 1 else nI 0) (h1 : B i = true) (h2 : B j = true) (hi : i < 64) (hj : j < 64) : ∀ k, k < 64 → upd (upd fb i (nI 1)) j (nI 1) k = if B k = true then nI 1 else nI 0 := by
  intro k hk
  unfold upd
  by_cases e1 : k = j
  · rw [if_pos e1, e1, if_pos h2]
  · rw [if_neg e1]
    by_cases e2 : k = i
    · rw [if_pos e2, e2, if_pos h1]
    · rw [if_neg e2]; exact hB k hk
theorem bad_f {fb : Nat → Int32} {B : Nat → Bool} {i j : Nat} (hB : ∀ i, i < 64 → fb i = if B i = true then nI 1 else nI 0) (hi : i < 64) (hj : j < 64) : ∀ k, k < 64 → upd (upd fb i (nI 1)) j (nI 1) k = if upB B i j k = true then nI 1 else nI 0 := by
  intro k hk
  unfold upd upB
  by_cases e1 : k = j
  · rw [if_pos e1, if_pos (by simp [e1])]
  · rw [if_neg e1]
    by_cases e2 : k = i
    · rw [if_pos e2, if_pos (by simp [e2])]
    · rw [if_neg e2, hB k hk]
      simp [e1, e2]
set_option maxHeartbeats 4000000 in
set_option maxRecDepth 100000 in
theorem c_R_init (zl : Launch) (G : GG) (h0 a b : Nat) (p1 : Int32) : Ctr (S := Nat × Nat) vV zl y_R_init b_R_init 4 (Option.none : Option Jvm.ClassFile.FieldType) 1 2 8 G [.ref h0, .int (nI a), .int p1, .int (nI b)] ([oR h0 [.int 0, .int 0, .int 0, .null, .null, .int 0]]) (fun _ _ => True) (fun u => [oR h0 [.int (nI a), .int p1, .int (nI b), .ref u.1, .ref u.2, .int (nI 0)], aI G u.1 4 (fun _ => 0), aI G u.2 4 (fun _ => 0)]) := by
  refine Ctr.start (by decide) (Nat.le_of_ble_eq_true rfl) ?_
  intro zp ze zs zm below meth zc A ls C0 hin hK hA hl hw
  obtain ⟨hx, hb, hr, hlk, hml, hown, hts⟩ := C0
  obtain ⟨R, hRR⟩ : ∃ R : Room, R = rmL 1 2 8 := ⟨_, rfl⟩
  have hRf : R.frames = 1 := by rw [hRR]
  have hRl : R.locals = 64 * 1 := by rw [hRR]
  have hRc : R.cells = 2 := by rw [hRR]
  have hRs : R.slots = 8 := by rw [hRR]
  rw [← hRR]; clear hRR
  generalize hQ : MQ below _ _ zs _ _ A = Q
  generalize hAr : List.toArray _ = args at hts hQ ⊢
  replace hl : lv_has ls 4 [(0, .ref h0), (1, .int (nI a)), (2, .int p1), (3, .int (nI b))] := hl
  obtain ⟨H, eH⟩ : ∃ H : Heap, H = zs.heap := ⟨_, rfl⟩
  obtain ⟨locs, eL⟩ : ∃ l0 : List Loc, l0 = [] := ⟨_, rfl⟩
  rw [← eH, ← eL] at hw ⊢; clear eH eL
  refine lv_aload_n hx hb d_R_init_0 rfl (lv_at hl 0 rfl) ?_
  refine W.objInit hx hb hown (hts _ tm_365) (hts _ tm_20) (hts _ tm_21) rfl (by rw [hml]; exact hl.1) rfl d_R_init_1 (by omega) (by rw [hRl]; exact Nat.le_of_ble_eq_true rfl) ?_
  refine W.eq (g2 := F0 zm 4 ls []) rfl ?_
  refine lv_aload_n hx hb d_R_init_4 rfl (lv_at hl 0 rfl) ?_
  refine lv_iconst (v := nI 4) hx hb d_R_init_5 rfl ?_
  refine r_newI hx hb hts hK hA hw (by omega) (by omega) (by omega) d_R_init_6 (fun ka H hw1 => ?_)
  replace hw : WW G A zs ([oR h0 [.int 0, .int 0, .int 0, .null, .null, .int 0], aI G ka 4 (fun _ => 0)]) H locs := hw1
  refine p_R_9 hx hb hts hown hin hK hw 0 rfl (Nat.le_of_ble_eq_true rfl) d_R_init_8 (fun H locs hw1 => ?_)
  replace hw : WW G A zs ([oR h0 [.int 0, .int 0, .int 0, .ref ka, .null, .int 0], aI G ka 4 (fun _ => 0)]) H locs := hw1
  refine lv_aload_n hx hb d_R_init_11 rfl (lv_at hl 0 rfl) ?_
  refine lv_iconst (v := nI 4) hx hb d_R_init_12 rfl ?_
  refine r_newI hx hb hts hK hA hw (by omega) (by omega) (by omega) d_R_init_13 (fun wa H hw1 => ?_)
  replace hw : WW G A zs ([oR h0 [.int 0, .int 0, .int 0, .ref ka, .null, .int 0], aI G ka 4 (fun _ => 0), aI G wa 4 (fun _ => 0)]) H locs := hw1
  refine p_R_15 hx hb hts hown hin hK hw 0 rfl (Nat.le_of_ble_eq_true rfl) d_R_init_15 (fun H locs hw1 => ?_)
  replace hw : WW G A zs ([oR h0 [.int 0, .int 0, .int 0, .ref ka, .ref wa, .int 0], aI G ka 4 (fun _ => 0), aI G wa 4 (fun _ => 0)]) H locs := hw1
  refine lv_aload_n hx hb d_R_init_18 rfl (lv_at hl 0 rfl) ?_
  refine lv_iload_n hx hb d_R_init_19 rfl (lv_at hl 1 rfl) ?_
  refine p_R_18 hx hb hts hown hin hK hw 0 rfl (Nat.le_of_ble_eq_true rfl) d_R_init_20 (fun H locs hw1 => ?_)
  replace hw : WW G A zs ([oR h0 [.int (nI a), .int 0, .int 0, .ref ka, .ref wa, .int 0], aI G ka 4 (fun _ => 0), aI G wa 4 (fun _ => 0)]) H locs := hw1
  refine lv_aload_n hx hb d_R_init_23 rfl (lv_at hl 0 rfl) ?_
  refine lv_iload_n hx hb d_R_init_24 rfl (lv_at hl 2 rfl) ?_
  refine p_R_22 hx hb hts hown hin hK hw 0 rfl (Nat.le_of_ble_eq_true rfl) d_R_init_25 (fun H locs hw1 => ?_)
  replace hw : WW G A zs ([oR h0 [.int (nI a), .int p1, .int 0, .ref ka, .ref wa, .int 0], aI G ka 4 (fun _ => 0), aI G wa 4 (fun _ => 0)]) H locs := hw1
  refine lv_aload_n hx hb d_R_init_28 rfl (lv_at hl 0 rfl) ?_
  refine lv_iload_n hx hb d_R_init_29 rfl (lv_at hl 3 rfl) ?_
  refine p_R_25 hx hb hts hown hin hK hw 0 rfl (Nat.le_of_ble_eq_true rfl) d_R_init_30 (fun H locs hw1 => ?_)
  replace hw : WW G A zs ([oR h0 [.int (nI a), .int p1, .int (nI b), .ref ka, .ref wa, .int 0], aI G ka 4 (fun _ => 0), aI G wa 4 (fun _ => 0)]) H locs := hw1
  exact r_ret hQ (r_vret (ka, wa) hx hb hr hlk hw trivial (by omega) (by omega) d_R_init_33)
set_option maxHeartbeats 4000000 in
set_option maxRecDepth 100000 in
theorem c_X_state (zl : Launch) (G : GG) (ad qa : Nat → Nat) (fm : Nat → Int64) (fs js : Nat → Nat → Int32) (zv : Nat → Value) (fb fn : Nat → Int32) (rr : Nat → Option Nat) (rp : va_W) (n room Sx Kx j : Nat) (ps : List (List Nat)) (B : Nat → Bool) (rs : List Rl) (E : List Ent) (S : List Nat) (md ag ov : Nat) (hj7 : j ≤ 7) (hlt : Sx < 8) : Ctr (S := (Nat → Nat) × (Nat → Int64) × (Nat → Nat → Int32) × (Nat → Nat → Int32) × (Nat → Value)) vI zl y_X_state b_X_state 1 (Option.some Jvm.ClassFile.FieldType.int) 1 0 0 G [.ref (ad 0)] ([oX (ad 0) [.int (nI n), .int (nI room), .int (nI Sx), .int (nI Kx), .ref (ad 17), .int (nI rs.length), .ref (ad 1), .ref (ad 2), .int (nI ps.length), .ref (qa 1), .ref (qa 2), .ref (qa 3), .ref (qa 4), .ref (qa 5), .ref (qa 6), .int (nI E.length), .int (nI S.length), .ref (qa 7), .int (boF ov E.length), .int (fuF ov), .int (nI md), .int (nI ag), .ref (ad 18), .ref (ad 10), .ref (ad 13), .ref (ad 16), zv 2], aZ G (ad 1) 64 fb, aI G (ad 2) 96 fn, aJ G (qa 1) (64 * 2 ^ j) fm, aI G (qa 2) (64 * 2 ^ j) (fs 2), aI G (qa 3) (64 * 2 ^ j) (fs 3), aI G (qa 4) (64 * 2 ^ j) (fs 4), aI G (qa 5) (64 * 2 ^ j) (fs 5), aI G (qa 6) (64 * 2 ^ j) (fs 6), aI G (qa 7) (2 ^ (8 + j)) (fs 7), oW (ad 10) [.ref (ad 11), .ref (ad 12), zv 0], aI G (ad 11) 4 (js 1), aI G (ad 12) 8 (js 2), oW (ad 13) [.ref (ad 14), .ref (ad 15), zv 1], aI G (ad 14) 4 (js 3), aI G (ad 15) 8 (js 4), aI G (ad 16) 4 (js 0), aR G (ad 17) 40 rr, oW (ad 18) [.ref (ad 19), .ref (ad 20), zv 3], aI G (ad 19) 4 (js 5), aI G (ad 20) 8 (js 6)] ++ rp) (fun r u => r = nI Sx ∧ XR ([] : List Ent) j u.2.1 u.2.2.1) (fun u => [oX (ad 0) [.int (nI n), .int (nI room), .int (nI (Sx + 1)), .int (nI Kx), .ref (ad 17), .int (nI rs.length), .ref (ad 1), .ref (ad 2), .int (nI ps.length), .ref (u.1 1), .ref (u.1 2), .ref (u.1 3), .ref (u.1 4), .ref (u.1 5), .ref (u.1 6), .int (nI (([] : List Ent).length)), .int (nI 0), .ref (u.1 7), .int (boF 0 ([] : List Ent).length), .int (fuF 0), .int (nI 0), .int (nI 0), .ref (ad 18), .ref (ad 10), .ref (ad 13), .ref (ad 16), u.2.2.2.2 2], aZ G (ad 1) 64 fb, aI G (ad 2) 96 fn, aJ G (u.1 1) (64 * 2 ^ j) u.2.1, aI G (u.1 2) (64 * 2 ^ j) (u.2.2.1 2), aI G (u.1 3) (64 * 2 ^ j) (u.2.2.1 3), aI G (u.1 4) (64 * 2 ^ j) (u.2.2.1 4), aI G (u.1 5) (64 * 2 ^ j) (u.2.2.1 5), aI G (u.1 6) (64 * 2 ^ j) (u.2.2.1 6), aI G (u.1 7) (2 ^ (8 + j)) (u.2.2.1 7), oW (ad 10) [.ref (ad 11), .ref (ad 12), u.2.2.2.2 0], aI G (ad 11) 4 (u.2.2.2.1 1), aI G (ad 12) 8 (u.2.2.2.1 2), oW (ad 13) [.ref (ad 14), .ref (ad 15), u.2.2.2.2 1], aI G (ad 14) 4 (u.2.2.2.1 3), aI G (ad 15) 8 (u.2.2.2.1 4), aI G (ad 16) 4 (u.2.2.2.1 0), aR G (ad 17) 40 rr, oW (ad 18) [.ref (ad 19), .ref (ad 20), u.2.2.2.2 3], aI G (ad 19) 4 (u.2.2.2.1 5), aI G (ad 20) 8 (u.2.2.2.1 6)] ++ rp) := by
  refine Ctr.start (by decide) (Nat.le_of_ble_eq_true rfl) ?_
  intro zp ze zs zm below meth zc A ls C0 hin hK hA hl hw
  obtain ⟨hx, hb, hr, hlk, hml, hown, hts⟩ := C0
  obtain ⟨R, hRR⟩ : ∃ R : Room, R = rmL 1 0 0 := ⟨_, rfl⟩
  have hRf : R.frames = 1 := by rw [hRR]
  have hRl : R.locals = 64 * 1 := by rw [hRR]
  have hRc : R.cells = 0 := by rw [hRR]
  have hRs : R.slots = 0 := by rw [hRR]
  rw [← hRR]; clear hRR
  generalize hQ : MQ below _ _ zs _ _ A = Q
  generalize hAr : List.toArray _ = args at hts hQ ⊢
  replace hl : lv_has ls 1 [(0, .ref (ad 0))] := hl
  obtain ⟨H, eH⟩ : ∃ H : Heap, H = zs.heap := ⟨_, rfl⟩
  obtain ⟨locs, eL⟩ : ∃ l0 : List Loc, l0 = [] := ⟨_, rfl⟩
  rw [← eH, ← eL] at hw ⊢; clear eH eL
  have hpw := pow_mono hj7
  have hpe : 2 ^ (8 + j) = 256 * 2 ^ j := by rw [Nat.pow_add]
  refine lv_aload_n hx hb d_X_state_0 rfl (lv_at hl 0 rfl) ?_
  refine g_X_7 hx hb hts hown hK hw 0 rfl rfl d_X_state_1 ?_
  refine lv_bipush (v := nI 8) hx hb d_X_state_4 (by decide) ?_
  refine r_icmp_ge (tgt := 13) hx hb (by omega) (by omega) d_X_state_6 (by decide) (fun c_6 => ?_) (fun c_6 => ?_)
  · skip
    exfalso; omega
  · skip
    refine lv_iconst (v := nI 1) hx hb d_X_state_9 rfl ?_
    refine lv_goto (tgt := 14) hx hb d_X_state_10 (by decide) ?_
    refine xS_v (rest := []) (As := [.int (nI 1)]) hx hb hml hown hts hK hA hw k_X_115 (c_X_allowed zl G) ([]) rfl rfl (fun _ => Nat.le_of_ble_eq_true rfl) rfl rfl hl.1 (Nat.le_of_ble_eq_true rfl) ⟨(by omega), (by omega)⟩ ⟨(by omega), (by omega)⟩ d_X_state_14 (fun _ u H locs hp hw1 => ?_)
    refine W.cs (cells' := 0) (slots' := 0) rfl rfl ?_
    replace hw : WW G A zs ([oX (ad 0) [.int (nI n), .int (nI room), .int (nI Sx), .int (nI Kx), .ref (ad 17), .int (nI rs.length), .ref (ad 1), .ref (ad 2), .int (nI ps.length), .ref (qa 1), .ref (qa 2), .ref (qa 3), .ref (qa 4), .ref (qa 5), .ref (qa 6), .int (nI E.length), .int (nI S.length), .ref (qa 7), .int (boF ov E.length), .int (fuF ov), .int (nI md), .int (nI ag), .ref (ad 18), .ref (ad 10), .ref (ad 13), .ref (ad 16), zv 2], aZ G (ad 1) 64 fb, aI G (ad 2) 96 fn, aJ G (qa 1) (64 * 2 ^ j) fm, aI G (qa 2) (64 * 2 ^ j) (fs 2), aI G (qa 3) (64 * 2 ^ j) (fs 3), aI G (qa 4) (64 * 2 ^ j) (fs 4), aI G (qa 5) (64 * 2 ^ j) (fs 5), aI G (qa 6) (64 * 2 ^ j) (fs 6), aI G (qa 7) (2 ^ (8 + j)) (fs 7), oW (ad 10) [.ref (ad 11), .ref (ad 12), zv 0], aI G (ad 11) 4 (js 1), aI G (ad 12) 8 (js 2), oW (ad 13) [.ref (ad 14), .ref (ad 15), zv 1], aI G (ad 14) 4 (js 3), aI G (ad 15) 8 (js 4), aI G (ad 16) 4 (js 0), aR G (ad 17) 40 rr, oW (ad 18) [.ref (ad 19), .ref (ad 20), zv 3], aI G (ad 19) 4 (js 5), aI G (ad 20) 8 (js 6)] ++ rp) H locs := hw1
    refine lv_aload_n hx hb d_X_state_17 rfl (lv_at hl 0 rfl) ?_
    refine lv_dup hx hb d_X_state_18 rfl ?_
    refine g_X_7 hx hb hts hown hK hw 0 rfl rfl d_X_state_19 ?_
    refine lv_iconst (v := nI 1) hx hb d_X_state_22 rfl ?_
    refine r_iaddN hx hb d_X_state_23 ?_
    refine p_X_7 hx hb hts hown hK hw 0 rfl (Nat.le_of_ble_eq_true rfl) d_X_state_24 (fun H locs hw1 => ?_)
    replace hw : WW G A zs ([oX (ad 0) [.int (nI n), .int (nI room), .int (nI (Sx + 1)), .int (nI Kx), .ref (ad 17), .int (nI rs.length), .ref (ad 1), .ref (ad 2), .int (nI ps.length), .ref (qa 1), .ref (qa 2), .ref (qa 3), .ref (qa 4), .ref (qa 5), .ref (qa 6), .int (nI E.length), .int (nI S.length), .ref (qa 7), .int (boF ov E.length), .int (fuF ov), .int (nI md), .int (nI ag), .ref (ad 18), .ref (ad 10), .ref (ad 13), .ref (ad 16), zv 2], aZ G (ad 1) 64 fb, aI G (ad 2) 96 fn, aJ G (qa 1) (64 * 2 ^ j) fm, aI G (qa 2) (64 * 2 ^ j) (fs 2), aI G (qa 3) (64 * 2 ^ j) (fs 3), aI G (qa 4) (64 * 2 ^ j) (fs 4), aI G (qa 5) (64 * 2 ^ j) (fs 5), aI G (qa 6) (64 * 2 ^ j) (fs 6), aI G (qa 7) (2 ^ (8 + j)) (fs 7), oW (ad 10) [.ref (ad 11), .ref (ad 12), zv 0], aI G (ad 11) 4 (js 1), aI G (ad 12) 8 (js 2), oW (ad 13) [.ref (ad 14), .ref (ad 15), zv 1], aI G (ad 14) 4 (js 3), aI G (ad 15) 8 (js 4), aI G (ad 16) 4 (js 0), aR G (ad 17) 40 rr, oW (ad 18) [.ref (ad 19), .ref (ad 20), zv 3], aI G (ad 19) 4 (js 5), aI G (ad 20) 8 (js 6)] ++ rp) H locs := hw1
    refine lv_aload_n hx hb d_X_state_27 rfl (lv_at hl 0 rfl) ?_
    refine xV_v (rest := []) (As := []) hx hb hml hown hts hK hA hw k_X_84 (c_X_forget zl G (ad 0) (qa 7) (2 ^ (8 + j)) (.int (nI n)) (.int (nI room)) (.int (nI (Sx + 1))) (.int (nI Kx)) (.ref (ad 17)) (.int (nI rs.length)) (.ref (ad 1)) (.ref (ad 2)) (.int (nI ps.length)) (.ref (qa 1)) (.ref (qa 2)) (.ref (qa 3)) (.ref (qa 4)) (.ref (qa 5)) (.ref (qa 6)) (.int (nI E.length)) (.int (nI S.length)) (.int (boF ov E.length)) (.int (fuF ov)) (.int (nI md)) (.int (nI ag)) (.ref (ad 18)) (.ref (ad 10)) (.ref (ad 13)) (.ref (ad 16)) (zv 2) (fs 7) (by omega)) ([0, 9]) rfl rfl (fun _ => Nat.le_of_ble_eq_true rfl) 0 rfl rfl rfl rfl hl.1 (Nat.le_of_ble_eq_true rfl) ⟨(by omega), (by omega)⟩ ⟨(by omega), (by omega)⟩ d_X_state_28 (fun _ tb9 H locs hp hw1 => ?_)
    obtain ⟨fs9, efs9⟩ : ∃ g : Nat → Nat → Int32, g = va_up fs 7 tb9 := ⟨_, rfl⟩
    refine W.cs (cells' := 0) (slots' := 0) rfl rfl ?_
    replace hw : WW G A zs ([oX (ad 0) [.int (nI n), .int (nI room), .int (nI (Sx + 1)), .int (nI Kx), .ref (ad 17), .int (nI rs.length), .ref (ad 1), .ref (ad 2), .int (nI ps.length), .ref (qa 1), .ref (qa 2), .ref (qa 3), .ref (qa 4), .ref (qa 5), .ref (qa 6), .int (nI (([] : List Ent).length)), .int (nI 0), .ref (qa 7), .int (boF 0 ([] : List Ent).length), .int (fuF 0), .int (nI 0), .int (nI 0), .ref (ad 18), .ref (ad 10), .ref (ad 13), .ref (ad 16), zv 2], aZ G (ad 1) 64 fb, aI G (ad 2) 96 fn, aJ G (qa 1) (64 * 2 ^ j) fm, aI G (qa 2) (64 * 2 ^ j) (fs 2), aI G (qa 3) (64 * 2 ^ j) (fs 3), aI G (qa 4) (64 * 2 ^ j) (fs 4), aI G (qa 5) (64 * 2 ^ j) (fs 5), aI G (qa 6) (64 * 2 ^ j) (fs 6), aI G (qa 7) (2 ^ (8 + j)) tb9, oW (ad 10) [.ref (ad 11), .ref (ad 12), zv 0], aI G (ad 11) 4 (js 1), aI G (ad 12) 8 (js 2), oW (ad 13) [.ref (ad 14), .ref (ad 15), zv 1], aI G (ad 14) 4 (js 3), aI G (ad 15) 8 (js 4), aI G (ad 16) 4 (js 0), aR G (ad 17) 40 rr, oW (ad 18) [.ref (ad 19), .ref (ad 20), zv 3], aI G (ad 19) 4 (js 5), aI G (ad 20) 8 (js 6)] ++ rp) H locs := hw1
    replace hw : WW G A zs ([oX (ad 0) [.int (nI n), .int (nI room), .int (nI (Sx + 1)), .int (nI Kx), .ref (ad 17), .int (nI rs.length), .ref (ad 1), .ref (ad 2), .int (nI ps.length), .ref (qa 1), .ref (qa 2), .ref (qa 3), .ref (qa 4), .ref (qa 5), .ref (qa 6), .int (nI (([] : List Ent).length)), .int (nI 0), .ref (qa 7), .int (boF 0 ([] : List Ent).length), .int (fuF 0), .int (nI 0), .int (nI 0), .ref (ad 18), .ref (ad 10), .ref (ad 13), .ref (ad 16), zv 2], aZ G (ad 1) 64 fb, aI G (ad 2) 96 fn, aJ G (qa 1) (64 * 2 ^ j) fm, aI G (qa 2) (64 * 2 ^ j) (fs9 2), aI G (qa 3) (64 * 2 ^ j) (fs9 3), aI G (qa 4) (64 * 2 ^ j) (fs9 4), aI G (qa 5) (64 * 2 ^ j) (fs9 5), aI G (qa 6) (64 * 2 ^ j) (fs9 6), aI G (qa 7) (2 ^ (8 + j)) (fs9 7), oW (ad 10) [.ref (ad 11), .ref (ad 12), zv 0], aI G (ad 11) 4 (js 1), aI G (ad 12) 8 (js 2), oW (ad 13) [.ref (ad 14), .ref (ad 15), zv 1], aI G (ad 14) 4 (js 3), aI G (ad 15) 8 (js 4), aI G (ad 16) 4 (js 0), aR G (ad 17) 40 rr, oW (ad 18) [.ref (ad 19), .ref (ad 20), zv 3], aI G (ad 19) 4 (js 5), aI G (ad 20) 8 (js 6)] ++ rp) H locs := by rw [efs9]; exact hw
    refine lv_aload_n hx hb d_X_state_31 rfl (lv_at hl 0 rfl) ?_
    refine g_X_7 hx hb hts hown hK hw 0 rfl rfl d_X_state_32 ?_
    refine lv_iconst (v := nI 1) hx hb d_X_state_35 rfl ?_
    refine r_isubN hx hb (by omega) d_X_state_36 ?_
    refine r_eq (show nI ((Sx + 1) - 1) = nI Sx from congrArg nI (by omega)) ?_
    exact r_ret hQ (r_iret (qa, fm, fs9, js, zv) hx hb hr hlk hw (⟨rfl, XR.empty hj7 (by rw [efs9]; exact hp)⟩) (by omega) (by omega) d_X_state_37)
set_option maxHeartbeats 4000000 in
set_option maxRecDepth 100000 in
theorem c_X_message (zl : Launch) (G : GG) (ad qa : Nat → Nat) (fm : Nat → Int64) (fs js : Nat → Nat → Int32) (zv : Nat → Value) (fb fn : Nat → Int32) (rr : Nat → Option Nat) (rp : va_W) (n room Sx Kx j : Nat) (ps : List (List Nat)) (B : Nat → Bool) (rs : List Rl) (E : List Ent) (S : List Nat) (md ag ov : Nat) (hj7 : j ≤ 7) (hlt : Kx < 6) : Ctr (S := (Nat → Nat) × (Nat → Int64) × (Nat → Nat → Int32) × (Nat → Nat → Int32) × (Nat → Value)) vI zl y_X_message b_X_message 1 (Option.some Jvm.ClassFile.FieldType.int) 1 0 0 G [.ref (ad 0)] ([oX (ad 0) [.int (nI n), .int (nI room), .int (nI Sx), .int (nI Kx), .ref (ad 17), .int (nI rs.length), .ref (ad 1), .ref (ad 2), .int (nI ps.length), .ref (qa 1), .ref (qa 2), .ref (qa 3), .ref (qa 4), .ref (qa 5), .ref (qa 6), .int (nI E.length), .int (nI S.length), .ref (qa 7), .int (boF ov E.length), .int (fuF ov), .int (nI md), .int (nI ag), .ref (ad 18), .ref (ad 10), .ref (ad 13), .ref (ad 16), zv 2], aZ G (ad 1) 64 fb, aI G (ad 2) 96 fn, aJ G (qa 1) (64 * 2 ^ j) fm, aI G (qa 2) (64 * 2 ^ j) (fs 2), aI G (qa 3) (64 * 2 ^ j) (fs 3), aI G (qa 4) (64 * 2 ^ j) (fs 4), aI G (qa 5) (64 * 2 ^ j) (fs 5), aI G (qa 6) (64 * 2 ^ j) (fs 6), aI G (qa 7) (2 ^ (8 + j)) (fs 7), oW (ad 10) [.ref (ad 11), .ref (ad 12), zv 0], aI G (ad 11) 4 (js 1), aI G (ad 12) 8 (js 2), oW (ad 13) [.ref (ad 14), .ref (ad 15), zv 1], aI G (ad 14) 4 (js 3), aI G (ad 15) 8 (js 4), aI G (ad 16) 4 (js 0), aR G (ad 17) 40 rr, oW (ad 18) [.ref (ad 19), .ref (ad 20), zv 3], aI G (ad 19) 4 (js 5), aI G (ad 20) 8 (js 6)] ++ rp) (fun r u => r = nI Kx ∧ XR ([] : List Ent) j u.2.1 u.2.2.1) (fun u => [oX (ad 0) [.int (nI n), .int (nI room), .int (nI Sx), .int (nI (Kx + 1)), .ref (ad 17), .int (nI rs.length), .ref (ad 1), .ref (ad 2), .int (nI ps.length), .ref (u.1 1), .ref (u.1 2), .ref (u.1 3), .ref (u.1 4), .ref (u.1 5), .ref (u.1 6), .int (nI (([] : List Ent).length)), .int (nI 0), .ref (u.1 7), .int (boF 0 ([] : List Ent).length), .int (fuF 0), .int (nI 0), .int (nI 0), .ref (ad 18), .ref (ad 10), .ref (ad 13), .ref (ad 16), u.2.2.2.2 2], aZ G (ad 1) 64 fb, aI G (ad 2) 96 fn, aJ G (u.1 1) (64 * 2 ^ j) u.2.1, aI G (u.1 2) (64 * 2 ^ j) (u.2.2.1 2), aI G (u.1 3) (64 * 2 ^ j) (u.2.2.1 3), aI G (u.1 4) (64 * 2 ^ j) (u.2.2.1 4), aI G (u.1 5) (64 * 2 ^ j) (u.2.2.1 5), aI G (u.1 6) (64 * 2 ^ j) (u.2.2.1 6), aI G (u.1 7) (2 ^ (8 + j)) (u.2.2.1 7), oW (ad 10) [.ref (ad 11), .ref (ad 12), u.2.2.2.2 0], aI G (ad 11) 4 (u.2.2.2.1 1), aI G (ad 12) 8 (u.2.2.2.1 2), oW (ad 13) [.ref (ad 14), .ref (ad 15), u.2.2.2.2 1], aI G (ad 14) 4 (u.2.2.2.1 3), aI G (ad 15) 8 (u.2.2.2.1 4), aI G (ad 16) 4 (u.2.2.2.1 0), aR G (ad 17) 40 rr, oW (ad 18) [.ref (ad 19), .ref (ad 20), u.2.2.2.2 3], aI G (ad 19) 4 (u.2.2.2.1 5), aI G (ad 20) 8 (u.2.2.2.1 6)] ++ rp) := by
  refine Ctr.start (by decide) (Nat.le_of_ble_eq_true rfl) ?_
  intro zp ze zs zm below meth zc A ls C0 hin hK hA hl hw
  obtain ⟨hx, hb, hr, hlk, hml, hown, hts⟩ := C0
  obtain ⟨R, hRR⟩ : ∃ R : Room, R = rmL 1 0 0 := ⟨_, rfl⟩
  have hRf : R.frames = 1 := by rw [hRR]
  have hRl : R.locals = 64 * 1 := by rw [hRR]
  have hRc : R.cells = 0 := by rw [hRR]
  have hRs : R.slots = 0 := by rw [hRR]
  rw [← hRR]; clear hRR
  generalize hQ : MQ below _ _ zs _ _ A = Q
  generalize hAr : List.toArray _ = args at hts hQ ⊢
  replace hl : lv_has ls 1 [(0, .ref (ad 0))] := hl
  obtain ⟨H, eH⟩ : ∃ H : Heap, H = zs.heap := ⟨_, rfl⟩
  obtain ⟨locs, eL⟩ : ∃ l0 : List Loc, l0 = [] := ⟨_, rfl⟩
  rw [← eH, ← eL] at hw ⊢; clear eH eL
  have hpw := pow_mono hj7
  have hpe : 2 ^ (8 + j) = 256 * 2 ^ j := by rw [Nat.pow_add]
  refine lv_aload_n hx hb d_X_message_0 rfl (lv_at hl 0 rfl) ?_
  refine g_X_119 hx hb hts hown hK hw 0 rfl rfl d_X_message_1 ?_
  refine lv_bipush (v := nI 6) hx hb d_X_message_4 (by decide) ?_
  refine r_icmp_ge (tgt := 13) hx hb (by omega) (by omega) d_X_message_6 (by decide) (fun c_6 => ?_) (fun c_6 => ?_)
  · skip
    exfalso; omega
  · skip
    refine lv_iconst (v := nI 1) hx hb d_X_message_9 rfl ?_
    refine lv_goto (tgt := 14) hx hb d_X_message_10 (by decide) ?_
    refine xS_v (rest := []) (As := [.int (nI 1)]) hx hb hml hown hts hK hA hw k_X_115 (c_X_allowed zl G) ([]) rfl rfl (fun _ => Nat.le_of_ble_eq_true rfl) rfl rfl hl.1 (Nat.le_of_ble_eq_true rfl) ⟨(by omega), (by omega)⟩ ⟨(by omega), (by omega)⟩ d_X_message_14 (fun _ u H locs hp hw1 => ?_)
    refine W.cs (cells' := 0) (slots' := 0) rfl rfl ?_
    replace hw : WW G A zs ([oX (ad 0) [.int (nI n), .int (nI room), .int (nI Sx), .int (nI Kx), .ref (ad 17), .int (nI rs.length), .ref (ad 1), .ref (ad 2), .int (nI ps.length), .ref (qa 1), .ref (qa 2), .ref (qa 3), .ref (qa 4), .ref (qa 5), .ref (qa 6), .int (nI E.length), .int (nI S.length), .ref (qa 7), .int (boF ov E.length), .int (fuF ov), .int (nI md), .int (nI ag), .ref (ad 18), .ref (ad 10), .ref (ad 13), .ref (ad 16), zv 2], aZ G (ad 1) 64 fb, aI G (ad 2) 96 fn, aJ G (qa 1) (64 * 2 ^ j) fm, aI G (qa 2) (64 * 2 ^ j) (fs 2), aI G (qa 3) (64 * 2 ^ j) (fs 3), aI G (qa 4) (64 * 2 ^ j) (fs 4), aI G (qa 5) (64 * 2 ^ j) (fs 5), aI G (qa 6) (64 * 2 ^ j) (fs 6), aI G (qa 7) (2 ^ (8 + j)) (fs 7), oW (ad 10) [.ref (ad 11), .ref (ad 12), zv 0], aI G (ad 11) 4 (js 1), aI G (ad 12) 8 (js 2), oW (ad 13) [.ref (ad 14), .ref (ad 15), zv 1], aI G (ad 14) 4 (js 3), aI G (ad 15) 8 (js 4), aI G (ad 16) 4 (js 0), aR G (ad 17) 40 rr, oW (ad 18) [.ref (ad 19), .ref (ad 20), zv 3], aI G (ad 19) 4 (js 5), aI G (ad 20) 8 (js 6)] ++ rp) H locs := hw1
    refine lv_aload_n hx hb d_X_message_17 rfl (lv_at hl 0 rfl) ?_
    refine lv_dup hx hb d_X_message_18 rfl ?_
    refine g_X_119 hx hb hts hown hK hw 0 rfl rfl d_X_message_19 ?_
    refine lv_iconst (v := nI 1) hx hb d_X_message_22 rfl ?_
    refine r_iaddN hx hb d_X_message_23 ?_
    refine p_X_119 hx hb hts hown hK hw 0 rfl (Nat.le_of_ble_eq_true rfl) d_X_message_24 (fun H locs hw1 => ?_)
    replace hw : WW G A zs ([oX (ad 0) [.int (nI n), .int (nI room), .int (nI Sx), .int (nI (Kx + 1)), .ref (ad 17), .int (nI rs.length), .ref (ad 1), .ref (ad 2), .int (nI ps.length), .ref (qa 1), .ref (qa 2), .ref (qa 3), .ref (qa 4), .ref (qa 5), .ref (qa 6), .int (nI E.length), .int (nI S.length), .ref (qa 7), .int (boF ov E.length), .int (fuF ov), .int (nI md), .int (nI ag), .ref (ad 18), .ref (ad 10), .ref (ad 13), .ref (ad 16), zv 2], aZ G (ad 1) 64 fb, aI G (ad 2) 96 fn, aJ G (qa 1) (64 * 2 ^ j) fm, aI G (qa 2) (64 * 2 ^ j) (fs 2), aI G (qa 3) (64 * 2 ^ j) (fs 3), aI G (qa 4) (64 * 2 ^ j) (fs 4), aI G (qa 5) (64 * 2 ^ j) (fs 5), aI G (qa 6) (64 * 2 ^ j) (fs 6), aI G (qa 7) (2 ^ (8 + j)) (fs 7), oW (ad 10) [.ref (ad 11), .ref (ad 12), zv 0], aI G (ad 11) 4 (js 1), aI G (ad 12) 8 (js 2), oW (ad 13) [.ref (ad 14), .ref (ad 15), zv 1], aI G (ad 14) 4 (js 3), aI G (ad 15) 8 (js 4), aI G (ad 16) 4 (js 0), aR G (ad 17) 40 rr, oW (ad 18) [.ref (ad 19), .ref (ad 20), zv 3], aI G (ad 19) 4 (js 5), aI G (ad 20) 8 (js 6)] ++ rp) H locs := hw1
    refine lv_aload_n hx hb d_X_message_27 rfl (lv_at hl 0 rfl) ?_
    refine xV_v (rest := []) (As := []) hx hb hml hown hts hK hA hw k_X_84 (c_X_forget zl G (ad 0) (qa 7) (2 ^ (8 + j)) (.int (nI n)) (.int (nI room)) (.int (nI Sx)) (.int (nI (Kx + 1))) (.ref (ad 17)) (.int (nI rs.length)) (.ref (ad 1)) (.ref (ad 2)) (.int (nI ps.length)) (.ref (qa 1)) (.ref (qa 2)) (.ref (qa 3)) (.ref (qa 4)) (.ref (qa 5)) (.ref (qa 6)) (.int (nI E.length)) (.int (nI S.length)) (.int (boF ov E.length)) (.int (fuF ov)) (.int (nI md)) (.int (nI ag)) (.ref (ad 18)) (.ref (ad 10)) (.ref (ad 13)) (.ref (ad 16)) (zv 2) (fs 7) (by omega)) ([0, 9]) rfl rfl (fun _ => Nat.le_of_ble_eq_true rfl) 0 rfl rfl rfl rfl hl.1 (Nat.le_of_ble_eq_true rfl) ⟨(by omega), (by omega)⟩ ⟨(by omega), (by omega)⟩ d_X_message_28 (fun _ tb9 H locs hp hw1 => ?_)
    obtain ⟨fs9, efs9⟩ : ∃ g : Nat → Nat → Int32, g = va_up fs 7 tb9 := ⟨_, rfl⟩
    refine W.cs (cells' := 0) (slots' := 0) rfl rfl ?_
    replace hw : WW G A zs ([oX (ad 0) [.int (nI n), .int (nI room), .int (nI Sx), .int (nI (Kx + 1)), .ref (ad 17), .int (nI rs.length), .ref (ad 1), .ref (ad 2), .int (nI ps.length), .ref (qa 1), .ref (qa 2), .ref (qa 3), .ref (qa 4), .ref (qa 5), .ref (qa 6), .int (nI (([] : List Ent).length)), .int (nI 0), .ref (qa 7), .int (boF 0 ([] : List Ent).length), .int (fuF 0), .int (nI 0), .int (nI 0), .ref (ad 18), .ref (ad 10), .ref (ad 13), .ref (ad 16), zv 2], aZ G (ad 1) 64 fb, aI G (ad 2) 96 fn, aJ G (qa 1) (64 * 2 ^ j) fm, aI G (qa 2) (64 * 2 ^ j) (fs 2), aI G (qa 3) (64 * 2 ^ j) (fs 3), aI G (qa 4) (64 * 2 ^ j) (fs 4), aI G (qa 5) (64 * 2 ^ j) (fs 5), aI G (qa 6) (64 * 2 ^ j) (fs 6), aI G (qa 7) (2 ^ (8 + j)) tb9, oW (ad 10) [.ref (ad 11), .ref (ad 12), zv 0], aI G (ad 11) 4 (js 1), aI G (ad 12) 8 (js 2), oW (ad 13) [.ref (ad 14), .ref (ad 15), zv 1], aI G (ad 14) 4 (js 3), aI G (ad 15) 8 (js 4), aI G (ad 16) 4 (js 0), aR G (ad 17) 40 rr, oW (ad 18) [.ref (ad 19), .ref (ad 20), zv 3], aI G (ad 19) 4 (js 5), aI G (ad 20) 8 (js 6)] ++ rp) H locs := hw1
    replace hw : WW G A zs ([oX (ad 0) [.int (nI n), .int (nI room), .int (nI Sx), .int (nI (Kx + 1)), .ref (ad 17), .int (nI rs.length), .ref (ad 1), .ref (ad 2), .int (nI ps.length), .ref (qa 1), .ref (qa 2), .ref (qa 3), .ref (qa 4), .ref (qa 5), .ref (qa 6), .int (nI (([] : List Ent).length)), .int (nI 0), .ref (qa 7), .int (boF 0 ([] : List Ent).length), .int (fuF 0), .int (nI 0), .int (nI 0), .ref (ad 18), .ref (ad 10), .ref (ad 13), .ref (ad 16), zv 2], aZ G (ad 1) 64 fb, aI G (ad 2) 96 fn, aJ G (qa 1) (64 * 2 ^ j) fm, aI G (qa 2) (64 * 2 ^ j) (fs9 2), aI G (qa 3) (64 * 2 ^ j) (fs9 3), aI G (qa 4) (64 * 2 ^ j) (fs9 4), aI G (qa 5) (64 * 2 ^ j) (fs9 5), aI G (qa 6) (64 * 2 ^ j) (fs9 6), aI G (qa 7) (2 ^ (8 + j)) (fs9 7), oW (ad 10) [.ref (ad 11), .ref (ad 12), zv 0], aI G (ad 11) 4 (js 1), aI G (ad 12) 8 (js 2), oW (ad 13) [.ref (ad 14), .ref (ad 15), zv 1], aI G (ad 14) 4 (js 3), aI G (ad 15) 8 (js 4), aI G (ad 16) 4 (js 0), aR G (ad 17) 40 rr, oW (ad 18) [.ref (ad 19), .ref (ad 20), zv 3], aI G (ad 19) 4 (js 5), aI G (ad 20) 8 (js 6)] ++ rp) H locs := by rw [efs9]; exact hw
    refine lv_aload_n hx hb d_X_message_31 rfl (lv_at hl 0 rfl) ?_
    refine g_X_119 hx hb hts hown hK hw 0 rfl rfl d_X_message_32 ?_
    refine lv_iconst (v := nI 1) hx hb d_X_message_35 rfl ?_
    refine r_isubN hx hb (by omega) d_X_message_36 ?_
    refine r_eq (show nI ((Kx + 1) - 1) = nI Kx from congrArg nI (by omega)) ?_
    exact r_ret hQ (r_iret (qa, fm, fs9, js, zv) hx hb hr hlk hw (⟨rfl, XR.empty hj7 (by rw [efs9]; exact hp)⟩) (by omega) (by omega) d_X_message_37)
set_option maxHeartbeats 4000000 in
set_option maxRecDepth 100000 in
theorem c_X_rule (zl : Launch) (G : GG) (ad qa : Nat → Nat) (fm : Nat → Int64) (fs js : Nat → Nat → Int32) (zv : Nat → Value) (fb fn : Nat → Int32) (rr : Nat → Option Nat) (rp : va_W) (n room Sx Kx j : Nat) (ps : List (List Nat)) (B : Nat → Bool) (rs : List Rl) (E : List Ent) (S : List Nat) (md ag ov a b : Nat) (ev : Option Nat) (hj7 : j ≤ 7) (hrp : RP G rr rs rp) (hlt : rs.length < 40) (hS8 : Sx ≤ 8) (hK6 : Kx ≤ 6) (ha : a < Sx) (hb9 : b < Sx) (hev : ∀ k, ev = some k → k < Kx) : Ctr (S := (Nat → Nat) × (Nat → Int64) × (Nat → Nat → Int32) × (Nat → Nat → Int32) × (Nat → Value) × (Nat → Option Nat) × va_W) vI zl y_X_rule b_X_rule 4 (Option.some Jvm.ClassFile.FieldType.int) 2 3 14 G [.ref (ad 0), .int (nI a), .int (evI ev), .int (nI b)] ([oX (ad 0) [.int (nI n), .int (nI room), .int (nI Sx), .int (nI Kx), .ref (ad 17), .int (nI rs.length), .ref (ad 1), .ref (ad 2), .int (nI ps.length), .ref (qa 1), .ref (qa 2), .ref (qa 3), .ref (qa 4), .ref (qa 5), .ref (qa 6), .int (nI E.length), .int (nI S.length), .ref (qa 7), .int (boF ov E.length), .int (fuF ov), .int (nI md), .int (nI ag), .ref (ad 18), .ref (ad 10), .ref (ad 13), .ref (ad 16), zv 2], aZ G (ad 1) 64 fb, aI G (ad 2) 96 fn, aJ G (qa 1) (64 * 2 ^ j) fm, aI G (qa 2) (64 * 2 ^ j) (fs 2), aI G (qa 3) (64 * 2 ^ j) (fs 3), aI G (qa 4) (64 * 2 ^ j) (fs 4), aI G (qa 5) (64 * 2 ^ j) (fs 5), aI G (qa 6) (64 * 2 ^ j) (fs 6), aI G (qa 7) (2 ^ (8 + j)) (fs 7), oW (ad 10) [.ref (ad 11), .ref (ad 12), zv 0], aI G (ad 11) 4 (js 1), aI G (ad 12) 8 (js 2), oW (ad 13) [.ref (ad 14), .ref (ad 15), zv 1], aI G (ad 14) 4 (js 3), aI G (ad 15) 8 (js 4), aI G (ad 16) 4 (js 0), aR G (ad 17) 40 rr, oW (ad 18) [.ref (ad 19), .ref (ad 20), zv 3], aI G (ad 19) 4 (js 5), aI G (ad 20) 8 (js 6)] ++ rp) (fun r u => r = nI rs.length ∧ XR ([] : List Ent) j u.2.1 u.2.2.1 ∧ RP G u.2.2.2.2.2.1 (rs ++ [(a, ev, b, [])]) u.2.2.2.2.2.2) (fun u => [oX (ad 0) [.int (nI n), .int (nI room), .int (nI Sx), .int (nI Kx), .ref (ad 17), .int (nI ((rs ++ [(a, ev, b, [])]).length)), .ref (ad 1), .ref (ad 2), .int (nI ps.length), .ref (u.1 1), .ref (u.1 2), .ref (u.1 3), .ref (u.1 4), .ref (u.1 5), .ref (u.1 6), .int (nI (([] : List Ent).length)), .int (nI 0), .ref (u.1 7), .int (boF 0 ([] : List Ent).length), .int (fuF 0), .int (nI 0), .int (nI 0), .ref (ad 18), .ref (ad 10), .ref (ad 13), .ref (ad 16), u.2.2.2.2.1 2], aZ G (ad 1) 64 fb, aI G (ad 2) 96 fn, aJ G (u.1 1) (64 * 2 ^ j) u.2.1, aI G (u.1 2) (64 * 2 ^ j) (u.2.2.1 2), aI G (u.1 3) (64 * 2 ^ j) (u.2.2.1 3), aI G (u.1 4) (64 * 2 ^ j) (u.2.2.1 4), aI G (u.1 5) (64 * 2 ^ j) (u.2.2.1 5), aI G (u.1 6) (64 * 2 ^ j) (u.2.2.1 6), aI G (u.1 7) (2 ^ (8 + j)) (u.2.2.1 7), oW (ad 10) [.ref (ad 11), .ref (ad 12), u.2.2.2.2.1 0], aI G (ad 11) 4 (u.2.2.2.1 1), aI G (ad 12) 8 (u.2.2.2.1 2), oW (ad 13) [.ref (ad 14), .ref (ad 15), u.2.2.2.2.1 1], aI G (ad 14) 4 (u.2.2.2.1 3), aI G (ad 15) 8 (u.2.2.2.1 4), aI G (ad 16) 4 (u.2.2.2.1 0), aR G (ad 17) 40 u.2.2.2.2.2.1, oW (ad 18) [.ref (ad 19), .ref (ad 20), u.2.2.2.2.1 3], aI G (ad 19) 4 (u.2.2.2.1 5), aI G (ad 20) 8 (u.2.2.2.1 6)] ++ u.2.2.2.2.2.2) := by
  refine Ctr.start (by decide) (Nat.le_of_ble_eq_true rfl) ?_
  intro zp ze zs zm below meth zc A ls C0 hin hK hA hl hw
  obtain ⟨hx, hb, hr, hlk, hml, hown, hts⟩ := C0
  obtain ⟨R, hRR⟩ : ∃ R : Room, R = rmL 2 3 14 := ⟨_, rfl⟩
  have hRf : R.frames = 2 := by rw [hRR]
  have hRl : R.locals = 64 * 2 := by rw [hRR]
  have hRc : R.cells = 3 := by rw [hRR]
  have hRs : R.slots = 14 := by rw [hRR]
  rw [← hRR]; clear hRR
  generalize hQ : MQ below _ _ zs _ _ A = Q
  generalize hAr : List.toArray _ = args at hts hQ ⊢
  replace hl : lv_has ls 4 [(0, .ref (ad 0)), (1, .int (nI a)), (2, .int (evI ev)), (3, .int (nI b))] := hl
  obtain ⟨H, eH⟩ : ∃ H : Heap, H = zs.heap := ⟨_, rfl⟩
  obtain ⟨locs, eL⟩ : ∃ l0 : List Loc, l0 = [] := ⟨_, rfl⟩
  rw [← eH, ← eL] at hw ⊢; clear eH eL
  have hpw := pow_mono hj7
  have hpe : 2 ^ (8 + j) = 256 * 2 ^ j := by rw [Nat.pow_add]
  refine lv_aload_n hx hb d_X_rule_0 rfl (lv_at hl 0 rfl) ?_
  refine lv_iload_n hx hb d_X_rule_1 rfl (lv_at hl 1 rfl) ?_
  refine xV_i (rest := []) (As := [.int (nI a)]) hx hb hml hown hts hK hA hw k_X_122 (c_X_isState zl G (ad 0) Sx (.int (nI n)) (.int (nI room)) (.int (nI Kx)) (.ref (ad 17)) (.int (nI rs.length)) (.ref (ad 1)) (.ref (ad 2)) (.int (nI ps.length)) (.ref (qa 1)) (.ref (qa 2)) (.ref (qa 3)) (.ref (qa 4)) (.ref (qa 5)) (.ref (qa 6)) (.int (nI E.length)) (.int (nI S.length)) (.ref (qa 7)) (.int (boF ov E.length)) (.int (fuF ov)) (.int (nI md)) (.int (nI ag)) (.ref (ad 18)) (.ref (ad 10)) (.ref (ad 13)) (.ref (ad 16)) (zv 2) (nI a)) ([0]) rfl rfl (fun _ => Nat.le_of_ble_eq_true rfl) 0 rfl rfl rfl rfl hl.1 (Nat.le_of_ble_eq_true rfl) ⟨(by omega), (by omega)⟩ ⟨(by omega), (by omega)⟩ d_X_rule_2 (fun r u H locs hp hw1 => ?_)
  rw [if_pos ⟨nI_pos' (by omega), nI_lt (by omega) (by omega)⟩] at hp
  subst hp
  refine W.cs (cells' := 0) (slots' := 0) rfl rfl ?_
  replace hw : WW G A zs ([oX (ad 0) [.int (nI n), .int (nI room), .int (nI Sx), .int (nI Kx), .ref (ad 17), .int (nI rs.length), .ref (ad 1), .ref (ad 2), .int (nI ps.length), .ref (qa 1), .ref (qa 2), .ref (qa 3), .ref (qa 4), .ref (qa 5), .ref (qa 6), .int (nI E.length), .int (nI S.length), .ref (qa 7), .int (boF ov E.length), .int (fuF ov), .int (nI md), .int (nI ag), .ref (ad 18), .ref (ad 10), .ref (ad 13), .ref (ad 16), zv 2], aZ G (ad 1) 64 fb, aI G (ad 2) 96 fn, aJ G (qa 1) (64 * 2 ^ j) fm, aI G (qa 2) (64 * 2 ^ j) (fs 2), aI G (qa 3) (64 * 2 ^ j) (fs 3), aI G (qa 4) (64 * 2 ^ j) (fs 4), aI G (qa 5) (64 * 2 ^ j) (fs 5), aI G (qa 6) (64 * 2 ^ j) (fs 6), aI G (qa 7) (2 ^ (8 + j)) (fs 7), oW (ad 10) [.ref (ad 11), .ref (ad 12), zv 0], aI G (ad 11) 4 (js 1), aI G (ad 12) 8 (js 2), oW (ad 13) [.ref (ad 14), .ref (ad 15), zv 1], aI G (ad 14) 4 (js 3), aI G (ad 15) 8 (js 4), aI G (ad 16) 4 (js 0), aR G (ad 17) 40 rr, oW (ad 18) [.ref (ad 19), .ref (ad 20), zv 3], aI G (ad 19) 4 (js 5), aI G (ad 20) 8 (js 6)] ++ rp) H locs := hw1
  refine r_if_eq (tgt := 33) hx hb (by omega) d_X_rule_5 (by decide) (fun c_5 => ?_) (fun c_5 => ?_)
  · skip
    exact absurd c_5 (by decide)
  · skip
    refine lv_aload_n hx hb d_X_rule_8 rfl (lv_at hl 0 rfl) ?_
    refine lv_iload_n hx hb d_X_rule_9 rfl (lv_at hl 3 rfl) ?_
    refine xV_i (rest := []) (As := [.int (nI b)]) hx hb hml hown hts hK hA hw k_X_122 (c_X_isState zl G (ad 0) Sx (.int (nI n)) (.int (nI room)) (.int (nI Kx)) (.ref (ad 17)) (.int (nI rs.length)) (.ref (ad 1)) (.ref (ad 2)) (.int (nI ps.length)) (.ref (qa 1)) (.ref (qa 2)) (.ref (qa 3)) (.ref (qa 4)) (.ref (qa 5)) (.ref (qa 6)) (.int (nI E.length)) (.int (nI S.length)) (.ref (qa 7)) (.int (boF ov E.length)) (.int (fuF ov)) (.int (nI md)) (.int (nI ag)) (.ref (ad 18)) (.ref (ad 10)) (.ref (ad 13)) (.ref (ad 16)) (zv 2) (nI b)) ([0]) rfl rfl (fun _ => Nat.le_of_ble_eq_true rfl) 0 rfl rfl rfl rfl hl.1 (Nat.le_of_ble_eq_true rfl) ⟨(by omega), (by omega)⟩ ⟨(by omega), (by omega)⟩ d_X_rule_10 (fun r u H locs hp hw1 => ?_)
    rw [if_pos ⟨nI_pos' (by omega), nI_lt (by omega) (by omega)⟩] at hp
    subst hp
    refine W.cs (cells' := 0) (slots' := 0) rfl rfl ?_
    replace hw : WW G A zs ([oX (ad 0) [.int (nI n), .int (nI room), .int (nI Sx), .int (nI Kx), .ref (ad 17), .int (nI rs.length), .ref (ad 1), .ref (ad 2), .int (nI ps.length), .ref (qa 1), .ref (qa 2), .ref (qa 3), .ref (qa 4), .ref (qa 5), .ref (qa 6), .int (nI E.length), .int (nI S.length), .ref (qa 7), .int (boF ov E.length), .int (fuF ov), .int (nI md), .int (nI ag), .ref (ad 18), .ref (ad 10), .ref (ad 13), .ref (ad 16), zv 2], aZ G (ad 1) 64 fb, aI G (ad 2) 96 fn, aJ G (qa 1) (64 * 2 ^ j) fm, aI G (qa 2) (64 * 2 ^ j) (fs 2), aI G (qa 3) (64 * 2 ^ j) (fs 3), aI G (qa 4) (64 * 2 ^ j) (fs 4), aI G (qa 5) (64 * 2 ^ j) (fs 5), aI G (qa 6) (64 * 2 ^ j) (fs 6), aI G (qa 7) (2 ^ (8 + j)) (fs 7), oW (ad 10) [.ref (ad 11), .ref (ad 12), zv 0], aI G (ad 11) 4 (js 1), aI G (ad 12) 8 (js 2), oW (ad 13) [.ref (ad 14), .ref (ad 15), zv 1], aI G (ad 14) 4 (js 3), aI G (ad 15) 8 (js 4), aI G (ad 16) 4 (js 0), aR G (ad 17) 40 rr, oW (ad 18) [.ref (ad 19), .ref (ad 20), zv 3], aI G (ad 19) 4 (js 5), aI G (ad 20) 8 (js 6)] ++ rp) H locs := hw1
    refine r_if_eq (tgt := 33) hx hb (by omega) d_X_rule_13 (by decide) (fun c_13 => ?_) (fun c_13 => ?_)
    · skip
      exact absurd c_13 (by decide)
    · skip
      refine lv_iload_n hx hb d_X_rule_16 rfl (lv_at hl 2 rfl) ?_
      refine lv_iconst (v := -1) hx hb d_X_rule_17 (by decide) ?_
      refine lv_icmp_lt (tgt := 33) hx hb d_X_rule_18 (by decide) (fun c_18 => ?_) (fun c_18 => ?_)
      · skip
        exact absurd c_18 (evI_ge ev hev hK6)
      · skip
        refine lv_iload_n hx hb d_X_rule_21 rfl (lv_at hl 2 rfl) ?_
        refine lv_aload_n hx hb d_X_rule_22 rfl (lv_at hl 0 rfl) ?_
        refine g_X_119 hx hb hts hown hK hw 0 rfl rfl d_X_rule_23 ?_
        refine lv_icmp_ge (tgt := 33) hx hb d_X_rule_26 (by decide) (fun c_26 => ?_) (fun c_26 => ?_)
        · skip
          exact absurd c_26 (evI_lt ev hev (by omega))
        · skip
          refine lv_iconst (v := nI 1) hx hb d_X_rule_29 rfl ?_
          refine lv_goto (tgt := 34) hx hb d_X_rule_30 (by decide) ?_
          refine xS_v (rest := []) (As := [.int (nI 1)]) hx hb hml hown hts hK hA hw k_X_126 (c_X_right zl G) ([]) rfl rfl (fun _ => Nat.le_of_ble_eq_true rfl) rfl rfl hl.1 (Nat.le_of_ble_eq_true rfl) ⟨(by omega), (by omega)⟩ ⟨(by omega), (by omega)⟩ d_X_rule_34 (fun _ u H locs hp hw1 => ?_)
          refine W.cs (cells' := 0) (slots' := 0) rfl rfl ?_
          replace hw : WW G A zs ([oX (ad 0) [.int (nI n), .int (nI room), .int (nI Sx), .int (nI Kx), .ref (ad 17), .int (nI rs.length), .ref (ad 1), .ref (ad 2), .int (nI ps.length), .ref (qa 1), .ref (qa 2), .ref (qa 3), .ref (qa 4), .ref (qa 5), .ref (qa 6), .int (nI E.length), .int (nI S.length), .ref (qa 7), .int (boF ov E.length), .int (fuF ov), .int (nI md), .int (nI ag), .ref (ad 18), .ref (ad 10), .ref (ad 13), .ref (ad 16), zv 2], aZ G (ad 1) 64 fb, aI G (ad 2) 96 fn, aJ G (qa 1) (64 * 2 ^ j) fm, aI G (qa 2) (64 * 2 ^ j) (fs 2), aI G (qa 3) (64 * 2 ^ j) (fs 3), aI G (qa 4) (64 * 2 ^ j) (fs 4), aI G (qa 5) (64 * 2 ^ j) (fs 5), aI G (qa 6) (64 * 2 ^ j) (fs 6), aI G (qa 7) (2 ^ (8 + j)) (fs 7), oW (ad 10) [.ref (ad 11), .ref (ad 12), zv 0], aI G (ad 11) 4 (js 1), aI G (ad 12) 8 (js 2), oW (ad 13) [.ref (ad 14), .ref (ad 15), zv 1], aI G (ad 14) 4 (js 3), aI G (ad 15) 8 (js 4), aI G (ad 16) 4 (js 0), aR G (ad 17) 40 rr, oW (ad 18) [.ref (ad 19), .ref (ad 20), zv 3], aI G (ad 19) 4 (js 5), aI G (ad 20) 8 (js 6)] ++ rp) H locs := hw1
          refine lv_aload_n hx hb d_X_rule_37 rfl (lv_at hl 0 rfl) ?_
          refine g_X_129 hx hb hts hown hK hw 0 rfl rfl d_X_rule_38 ?_
          refine lv_bipush (v := nI 40) hx hb d_X_rule_41 (by decide) ?_
          refine r_icmp_ge (tgt := 50) hx hb (by omega) (by omega) d_X_rule_43 (by decide) (fun c_43 => ?_) (fun c_43 => ?_)
          · skip
            exfalso; omega
          · skip
            refine lv_iconst (v := nI 1) hx hb d_X_rule_46 rfl ?_
            refine lv_goto (tgt := 51) hx hb d_X_rule_47 (by decide) ?_
            refine xS_v (rest := []) (As := [.int (nI 1)]) hx hb hml hown hts hK hA hw k_X_115 (c_X_allowed zl G) ([]) rfl rfl (fun _ => Nat.le_of_ble_eq_true rfl) rfl rfl hl.1 (Nat.le_of_ble_eq_true rfl) ⟨(by omega), (by omega)⟩ ⟨(by omega), (by omega)⟩ d_X_rule_51 (fun _ u H locs hp hw1 => ?_)
            refine W.cs (cells' := 0) (slots' := 0) rfl rfl ?_
            replace hw : WW G A zs ([oX (ad 0) [.int (nI n), .int (nI room), .int (nI Sx), .int (nI Kx), .ref (ad 17), .int (nI rs.length), .ref (ad 1), .ref (ad 2), .int (nI ps.length), .ref (qa 1), .ref (qa 2), .ref (qa 3), .ref (qa 4), .ref (qa 5), .ref (qa 6), .int (nI E.length), .int (nI S.length), .ref (qa 7), .int (boF ov E.length), .int (fuF ov), .int (nI md), .int (nI ag), .ref (ad 18), .ref (ad 10), .ref (ad 13), .ref (ad 16), zv 2], aZ G (ad 1) 64 fb, aI G (ad 2) 96 fn, aJ G (qa 1) (64 * 2 ^ j) fm, aI G (qa 2) (64 * 2 ^ j) (fs 2), aI G (qa 3) (64 * 2 ^ j) (fs 3), aI G (qa 4) (64 * 2 ^ j) (fs 4), aI G (qa 5) (64 * 2 ^ j) (fs 5), aI G (qa 6) (64 * 2 ^ j) (fs 6), aI G (qa 7) (2 ^ (8 + j)) (fs 7), oW (ad 10) [.ref (ad 11), .ref (ad 12), zv 0], aI G (ad 11) 4 (js 1), aI G (ad 12) 8 (js 2), oW (ad 13) [.ref (ad 14), .ref (ad 15), zv 1], aI G (ad 14) 4 (js 3), aI G (ad 15) 8 (js 4), aI G (ad 16) 4 (js 0), aR G (ad 17) 40 rr, oW (ad 18) [.ref (ad 19), .ref (ad 20), zv 3], aI G (ad 19) 4 (js 5), aI G (ad 20) 8 (js 6)] ++ rp) H locs := hw1
            refine lv_aload_n hx hb d_X_rule_54 rfl (lv_at hl 0 rfl) ?_
            refine g_X_15 hx hb hts hown hK hw 0 rfl rfl d_X_rule_55 ?_
            refine lv_aload_n hx hb d_X_rule_58 rfl (lv_at hl 0 rfl) ?_
            refine g_X_129 hx hb hts hown hK hw 0 rfl rfl d_X_rule_59 ?_
            refine va_new (D := G.1) (ci := 1) (fs := [.int 0, .int 0, .int 0, .null, .null, .int 0]) (C := R_R) (T := F_R) (N := 6) hx hb hts i_R t_R t_R_ok hown (hts _ tm_22) (hts _ tm_361) (hts _ tm_10) hK.1 hw.1 hw.2.1 hw.2.2 hA rfl (new_R) (by omega) (by omega) d_X_rule_62 (fun ra H q1 q2 q3 => ?_)
            replace hw : WW G A zs ([oX (ad 0) [.int (nI n), .int (nI room), .int (nI Sx), .int (nI Kx), .ref (ad 17), .int (nI rs.length), .ref (ad 1), .ref (ad 2), .int (nI ps.length), .ref (qa 1), .ref (qa 2), .ref (qa 3), .ref (qa 4), .ref (qa 5), .ref (qa 6), .int (nI E.length), .int (nI S.length), .ref (qa 7), .int (boF ov E.length), .int (fuF ov), .int (nI md), .int (nI ag), .ref (ad 18), .ref (ad 10), .ref (ad 13), .ref (ad 16), zv 2], aZ G (ad 1) 64 fb, aI G (ad 2) 96 fn, aJ G (qa 1) (64 * 2 ^ j) fm, aI G (qa 2) (64 * 2 ^ j) (fs 2), aI G (qa 3) (64 * 2 ^ j) (fs 3), aI G (qa 4) (64 * 2 ^ j) (fs 4), aI G (qa 5) (64 * 2 ^ j) (fs 5), aI G (qa 6) (64 * 2 ^ j) (fs 6), aI G (qa 7) (2 ^ (8 + j)) (fs 7), oW (ad 10) [.ref (ad 11), .ref (ad 12), zv 0], aI G (ad 11) 4 (js 1), aI G (ad 12) 8 (js 2), oW (ad 13) [.ref (ad 14), .ref (ad 15), zv 1], aI G (ad 14) 4 (js 3), aI G (ad 15) 8 (js 4), aI G (ad 16) 4 (js 0), aR G (ad 17) 40 rr, oW (ad 18) [.ref (ad 19), .ref (ad 20), zv 3], aI G (ad 19) 4 (js 5), aI G (ad 20) 8 (js 6), oR ra [.int 0, .int 0, .int 0, .null, .null, .int 0]] ++ rp) H locs := WW.tlD (C := [oX (ad 0) [.int (nI n), .int (nI room), .int (nI Sx), .int (nI Kx), .ref (ad 17), .int (nI rs.length), .ref (ad 1), .ref (ad 2), .int (nI ps.length), .ref (qa 1), .ref (qa 2), .ref (qa 3), .ref (qa 4), .ref (qa 5), .ref (qa 6), .int (nI E.length), .int (nI S.length), .ref (qa 7), .int (boF ov E.length), .int (fuF ov), .int (nI md), .int (nI ag), .ref (ad 18), .ref (ad 10), .ref (ad 13), .ref (ad 16), zv 2], aZ G (ad 1) 64 fb, aI G (ad 2) 96 fn, aJ G (qa 1) (64 * 2 ^ j) fm, aI G (qa 2) (64 * 2 ^ j) (fs 2), aI G (qa 3) (64 * 2 ^ j) (fs 3), aI G (qa 4) (64 * 2 ^ j) (fs 4), aI G (qa 5) (64 * 2 ^ j) (fs 5), aI G (qa 6) (64 * 2 ^ j) (fs 6), aI G (qa 7) (2 ^ (8 + j)) (fs 7), oW (ad 10) [.ref (ad 11), .ref (ad 12), zv 0], aI G (ad 11) 4 (js 1), aI G (ad 12) 8 (js 2), oW (ad 13) [.ref (ad 14), .ref (ad 15), zv 1], aI G (ad 14) 4 (js 3), aI G (ad 15) 8 (js 4), aI G (ad 16) 4 (js 0), aR G (ad 17) 40 rr, oW (ad 18) [.ref (ad 19), .ref (ad 20), zv 3], aI G (ad 19) 4 (js 5), aI G (ad 20) 8 (js 6)]) (rp := rp) (D := [oR ra [.int 0, .int 0, .int 0, .null, .null, .int 0]]) ⟨q1, q2, q3⟩
            refine lv_dup hx hb d_X_rule_65 rfl ?_
            refine lv_iload_n hx hb d_X_rule_66 rfl (lv_at hl 1 rfl) ?_
            refine lv_iload_n hx hb d_X_rule_67 rfl (lv_at hl 2 rfl) ?_
            refine lv_iload_n hx hb d_X_rule_68 rfl (lv_at hl 3 rfl) ?_
            refine xI_v (rest := [.ref ra, .int (nI rs.length), .ref (ad 17)]) (As := [.int (nI a), .int (evI ev), .int (nI b)]) hx hb hml hown hts hK hA hw k_X_132 (c_R_init zl G ra a b (evI ev)) ([21]) rfl rfl (fun _ => Nat.le_of_ble_eq_true rfl) rfl rfl hl.1 (Nat.le_of_ble_eq_true rfl) ⟨(by omega), (by omega)⟩ ⟨(by omega), (by omega)⟩ d_X_rule_69 (fun _ u8 H locs hp hw1 => ?_)
            obtain ⟨ka, wa⟩ := u8
            replace hw : WW G A zs ([oX (ad 0) [.int (nI n), .int (nI room), .int (nI Sx), .int (nI Kx), .ref (ad 17), .int (nI rs.length), .ref (ad 1), .ref (ad 2), .int (nI ps.length), .ref (qa 1), .ref (qa 2), .ref (qa 3), .ref (qa 4), .ref (qa 5), .ref (qa 6), .int (nI E.length), .int (nI S.length), .ref (qa 7), .int (boF ov E.length), .int (fuF ov), .int (nI md), .int (nI ag), .ref (ad 18), .ref (ad 10), .ref (ad 13), .ref (ad 16), zv 2], aZ G (ad 1) 64 fb, aI G (ad 2) 96 fn, aJ G (qa 1) (64 * 2 ^ j) fm, aI G (qa 2) (64 * 2 ^ j) (fs 2), aI G (qa 3) (64 * 2 ^ j) (fs 3), aI G (qa 4) (64 * 2 ^ j) (fs 4), aI G (qa 5) (64 * 2 ^ j) (fs 5), aI G (qa 6) (64 * 2 ^ j) (fs 6), aI G (qa 7) (2 ^ (8 + j)) (fs 7), oW (ad 10) [.ref (ad 11), .ref (ad 12), zv 0], aI G (ad 11) 4 (js 1), aI G (ad 12) 8 (js 2), oW (ad 13) [.ref (ad 14), .ref (ad 15), zv 1], aI G (ad 14) 4 (js 3), aI G (ad 15) 8 (js 4), aI G (ad 16) 4 (js 0), aR G (ad 17) 40 rr, oW (ad 18) [.ref (ad 19), .ref (ad 20), zv 3], aI G (ad 19) 4 (js 5), aI G (ad 20) 8 (js 6), oR ra [.int (nI a), .int (evI ev), .int (nI b), .ref ka, .ref wa, .int (nI 0)], aI G ka 4 (fun _ => 0), aI G wa 4 (fun _ => 0)] ++ rp) H locs := WW.tlD (C := [oX (ad 0) [.int (nI n), .int (nI room), .int (nI Sx), .int (nI Kx), .ref (ad 17), .int (nI rs.length), .ref (ad 1), .ref (ad 2), .int (nI ps.length), .ref (qa 1), .ref (qa 2), .ref (qa 3), .ref (qa 4), .ref (qa 5), .ref (qa 6), .int (nI E.length), .int (nI S.length), .ref (qa 7), .int (boF ov E.length), .int (fuF ov), .int (nI md), .int (nI ag), .ref (ad 18), .ref (ad 10), .ref (ad 13), .ref (ad 16), zv 2], aZ G (ad 1) 64 fb, aI G (ad 2) 96 fn, aJ G (qa 1) (64 * 2 ^ j) fm, aI G (qa 2) (64 * 2 ^ j) (fs 2), aI G (qa 3) (64 * 2 ^ j) (fs 3), aI G (qa 4) (64 * 2 ^ j) (fs 4), aI G (qa 5) (64 * 2 ^ j) (fs 5), aI G (qa 6) (64 * 2 ^ j) (fs 6), aI G (qa 7) (2 ^ (8 + j)) (fs 7), oW (ad 10) [.ref (ad 11), .ref (ad 12), zv 0], aI G (ad 11) 4 (js 1), aI G (ad 12) 8 (js 2), oW (ad 13) [.ref (ad 14), .ref (ad 15), zv 1], aI G (ad 14) 4 (js 3), aI G (ad 15) 8 (js 4), aI G (ad 16) 4 (js 0), aR G (ad 17) 40 rr, oW (ad 18) [.ref (ad 19), .ref (ad 20), zv 3], aI G (ad 19) 4 (js 5), aI G (ad 20) 8 (js 6), oR ra [.int (nI a), .int (evI ev), .int (nI b), .ref ka, .ref wa, .int (nI 0)]]) (rp := rp) (D := [aI G ka 4 (fun _ => 0), aI G wa 4 (fun _ => 0)]) hw1
            refine r_aast hx hb hK hw 17 21 rfl rfl (by omega) (by omega) d_X_rule_72 (fun H locs hw1 => ?_)
            replace hw : WW G A zs ([oX (ad 0) [.int (nI n), .int (nI room), .int (nI Sx), .int (nI Kx), .ref (ad 17), .int (nI rs.length), .ref (ad 1), .ref (ad 2), .int (nI ps.length), .ref (qa 1), .ref (qa 2), .ref (qa 3), .ref (qa 4), .ref (qa 5), .ref (qa 6), .int (nI E.length), .int (nI S.length), .ref (qa 7), .int (boF ov E.length), .int (fuF ov), .int (nI md), .int (nI ag), .ref (ad 18), .ref (ad 10), .ref (ad 13), .ref (ad 16), zv 2], aZ G (ad 1) 64 fb, aI G (ad 2) 96 fn, aJ G (qa 1) (64 * 2 ^ j) fm, aI G (qa 2) (64 * 2 ^ j) (fs 2), aI G (qa 3) (64 * 2 ^ j) (fs 3), aI G (qa 4) (64 * 2 ^ j) (fs 4), aI G (qa 5) (64 * 2 ^ j) (fs 5), aI G (qa 6) (64 * 2 ^ j) (fs 6), aI G (qa 7) (2 ^ (8 + j)) (fs 7), oW (ad 10) [.ref (ad 11), .ref (ad 12), zv 0], aI G (ad 11) 4 (js 1), aI G (ad 12) 8 (js 2), oW (ad 13) [.ref (ad 14), .ref (ad 15), zv 1], aI G (ad 14) 4 (js 3), aI G (ad 15) 8 (js 4), aI G (ad 16) 4 (js 0), aR G (ad 17) 40 (va_up rr rs.length (some ra)), oW (ad 18) [.ref (ad 19), .ref (ad 20), zv 3], aI G (ad 19) 4 (js 5), aI G (ad 20) 8 (js 6), oR ra [.int (nI a), .int (evI ev), .int (nI b), .ref ka, .ref wa, .int (nI 0)], aI G ka 4 (fun _ => 0), aI G wa 4 (fun _ => 0)] ++ rp) H locs := hw1
            refine lv_aload_n hx hb d_X_rule_73 rfl (lv_at hl 0 rfl) ?_
            refine lv_dup hx hb d_X_rule_74 rfl ?_
            refine g_X_129 hx hb hts hown hK hw 0 rfl rfl d_X_rule_75 ?_
            refine lv_iconst (v := nI 1) hx hb d_X_rule_78 rfl ?_
            refine r_iaddN hx hb d_X_rule_79 ?_
            refine r_eq (show nI (rs.length + 1) = nI ((rs ++ [(a, ev, b, [])]).length) from congrArg nI (by rw [List.length_append]; rfl)) ?_
            refine p_X_129 hx hb hts hown hK hw 0 rfl (Nat.le_of_ble_eq_true rfl) d_X_rule_80 (fun H locs hw1 => ?_)
            replace hw : WW G A zs ([oX (ad 0) [.int (nI n), .int (nI room), .int (nI Sx), .int (nI Kx), .ref (ad 17), .int (nI ((rs ++ [(a, ev, b, [])]).length)), .ref (ad 1), .ref (ad 2), .int (nI ps.length), .ref (qa 1), .ref (qa 2), .ref (qa 3), .ref (qa 4), .ref (qa 5), .ref (qa 6), .int (nI E.length), .int (nI S.length), .ref (qa 7), .int (boF ov E.length), .int (fuF ov), .int (nI md), .int (nI ag), .ref (ad 18), .ref (ad 10), .ref (ad 13), .ref (ad 16), zv 2], aZ G (ad 1) 64 fb, aI G (ad 2) 96 fn, aJ G (qa 1) (64 * 2 ^ j) fm, aI G (qa 2) (64 * 2 ^ j) (fs 2), aI G (qa 3) (64 * 2 ^ j) (fs 3), aI G (qa 4) (64 * 2 ^ j) (fs 4), aI G (qa 5) (64 * 2 ^ j) (fs 5), aI G (qa 6) (64 * 2 ^ j) (fs 6), aI G (qa 7) (2 ^ (8 + j)) (fs 7), oW (ad 10) [.ref (ad 11), .ref (ad 12), zv 0], aI G (ad 11) 4 (js 1), aI G (ad 12) 8 (js 2), oW (ad 13) [.ref (ad 14), .ref (ad 15), zv 1], aI G (ad 14) 4 (js 3), aI G (ad 15) 8 (js 4), aI G (ad 16) 4 (js 0), aR G (ad 17) 40 (va_up rr rs.length (some ra)), oW (ad 18) [.ref (ad 19), .ref (ad 20), zv 3], aI G (ad 19) 4 (js 5), aI G (ad 20) 8 (js 6), oR ra [.int (nI a), .int (evI ev), .int (nI b), .ref ka, .ref wa, .int (nI 0)], aI G ka 4 (fun _ => 0), aI G wa 4 (fun _ => 0)] ++ rp) H locs := hw1
            refine lv_aload_n hx hb d_X_rule_83 rfl (lv_at hl 0 rfl) ?_
            refine xV_v (rest := []) (As := []) hx hb hml hown hts hK hA hw k_X_84 (c_X_forget zl G (ad 0) (qa 7) (2 ^ (8 + j)) (.int (nI n)) (.int (nI room)) (.int (nI Sx)) (.int (nI Kx)) (.ref (ad 17)) (.int (nI ((rs ++ [(a, ev, b, [])]).length))) (.ref (ad 1)) (.ref (ad 2)) (.int (nI ps.length)) (.ref (qa 1)) (.ref (qa 2)) (.ref (qa 3)) (.ref (qa 4)) (.ref (qa 5)) (.ref (qa 6)) (.int (nI E.length)) (.int (nI S.length)) (.int (boF ov E.length)) (.int (fuF ov)) (.int (nI md)) (.int (nI ag)) (.ref (ad 18)) (.ref (ad 10)) (.ref (ad 13)) (.ref (ad 16)) (zv 2) (fs 7) (by omega)) ([0, 9]) rfl rfl (fun _ => Nat.le_of_ble_eq_true rfl) 0 rfl rfl rfl rfl hl.1 (Nat.le_of_ble_eq_true rfl) ⟨(by omega), (by omega)⟩ ⟨(by omega), (by omega)⟩ d_X_rule_84 (fun _ tb9 H locs hp hw1 => ?_)
            obtain ⟨fs9, efs9⟩ : ∃ g : Nat → Nat → Int32, g = va_up fs 7 tb9 := ⟨_, rfl⟩
            refine W.cs (cells' := 0 + 1 + 2) (slots' := 0 + 6 + 8) rfl rfl ?_
            replace hw : WW G A zs ([oX (ad 0) [.int (nI n), .int (nI room), .int (nI Sx), .int (nI Kx), .ref (ad 17), .int (nI ((rs ++ [(a, ev, b, [])]).length)), .ref (ad 1), .ref (ad 2), .int (nI ps.length), .ref (qa 1), .ref (qa 2), .ref (qa 3), .ref (qa 4), .ref (qa 5), .ref (qa 6), .int (nI (([] : List Ent).length)), .int (nI 0), .ref (qa 7), .int (boF 0 ([] : List Ent).length), .int (fuF 0), .int (nI 0), .int (nI 0), .ref (ad 18), .ref (ad 10), .ref (ad 13), .ref (ad 16), zv 2], aZ G (ad 1) 64 fb, aI G (ad 2) 96 fn, aJ G (qa 1) (64 * 2 ^ j) fm, aI G (qa 2) (64 * 2 ^ j) (fs 2), aI G (qa 3) (64 * 2 ^ j) (fs 3), aI G (qa 4) (64 * 2 ^ j) (fs 4), aI G (qa 5) (64 * 2 ^ j) (fs 5), aI G (qa 6) (64 * 2 ^ j) (fs 6), aI G (qa 7) (2 ^ (8 + j)) tb9, oW (ad 10) [.ref (ad 11), .ref (ad 12), zv 0], aI G (ad 11) 4 (js 1), aI G (ad 12) 8 (js 2), oW (ad 13) [.ref (ad 14), .ref (ad 15), zv 1], aI G (ad 14) 4 (js 3), aI G (ad 15) 8 (js 4), aI G (ad 16) 4 (js 0), aR G (ad 17) 40 (va_up rr rs.length (some ra)), oW (ad 18) [.ref (ad 19), .ref (ad 20), zv 3], aI G (ad 19) 4 (js 5), aI G (ad 20) 8 (js 6), oR ra [.int (nI a), .int (evI ev), .int (nI b), .ref ka, .ref wa, .int (nI 0)], aI G ka 4 (fun _ => 0), aI G wa 4 (fun _ => 0)] ++ rp) H locs := hw1
            replace hw : WW G A zs ([oX (ad 0) [.int (nI n), .int (nI room), .int (nI Sx), .int (nI Kx), .ref (ad 17), .int (nI ((rs ++ [(a, ev, b, [])]).length)), .ref (ad 1), .ref (ad 2), .int (nI ps.length), .ref (qa 1), .ref (qa 2), .ref (qa 3), .ref (qa 4), .ref (qa 5), .ref (qa 6), .int (nI (([] : List Ent).length)), .int (nI 0), .ref (qa 7), .int (boF 0 ([] : List Ent).length), .int (fuF 0), .int (nI 0), .int (nI 0), .ref (ad 18), .ref (ad 10), .ref (ad 13), .ref (ad 16), zv 2], aZ G (ad 1) 64 fb, aI G (ad 2) 96 fn, aJ G (qa 1) (64 * 2 ^ j) fm, aI G (qa 2) (64 * 2 ^ j) (fs9 2), aI G (qa 3) (64 * 2 ^ j) (fs9 3), aI G (qa 4) (64 * 2 ^ j) (fs9 4), aI G (qa 5) (64 * 2 ^ j) (fs9 5), aI G (qa 6) (64 * 2 ^ j) (fs9 6), aI G (qa 7) (2 ^ (8 + j)) (fs9 7), oW (ad 10) [.ref (ad 11), .ref (ad 12), zv 0], aI G (ad 11) 4 (js 1), aI G (ad 12) 8 (js 2), oW (ad 13) [.ref (ad 14), .ref (ad 15), zv 1], aI G (ad 14) 4 (js 3), aI G (ad 15) 8 (js 4), aI G (ad 16) 4 (js 0), aR G (ad 17) 40 (va_up rr rs.length (some ra)), oW (ad 18) [.ref (ad 19), .ref (ad 20), zv 3], aI G (ad 19) 4 (js 5), aI G (ad 20) 8 (js 6), oR ra [.int (nI a), .int (evI ev), .int (nI b), .ref ka, .ref wa, .int (nI 0)], aI G ka 4 (fun _ => 0), aI G wa 4 (fun _ => 0)] ++ rp) H locs := by rw [efs9]; exact hw
            refine lv_aload_n hx hb d_X_rule_87 rfl (lv_at hl 0 rfl) ?_
            refine g_X_129 hx hb hts hown hK hw 0 rfl rfl d_X_rule_88 ?_
            refine lv_iconst (v := nI 1) hx hb d_X_rule_91 rfl ?_
            refine r_isubN hx hb (by rw [List.length_append]; simp) d_X_rule_92 ?_
            refine r_eq (show nI (((rs ++ [(a, ev, b, [])]).length) - 1) = nI rs.length from congrArg nI (by rw [List.length_append, List.length_singleton]; omega)) ?_
            replace hw := WW.ltD (C := [oX (ad 0) [.int (nI n), .int (nI room), .int (nI Sx), .int (nI Kx), .ref (ad 17), .int (nI ((rs ++ [(a, ev, b, [])]).length)), .ref (ad 1), .ref (ad 2), .int (nI ps.length), .ref (qa 1), .ref (qa 2), .ref (qa 3), .ref (qa 4), .ref (qa 5), .ref (qa 6), .int (nI (([] : List Ent).length)), .int (nI 0), .ref (qa 7), .int (boF 0 ([] : List Ent).length), .int (fuF 0), .int (nI 0), .int (nI 0), .ref (ad 18), .ref (ad 10), .ref (ad 13), .ref (ad 16), zv 2], aZ G (ad 1) 64 fb, aI G (ad 2) 96 fn, aJ G (qa 1) (64 * 2 ^ j) fm, aI G (qa 2) (64 * 2 ^ j) (fs9 2), aI G (qa 3) (64 * 2 ^ j) (fs9 3), aI G (qa 4) (64 * 2 ^ j) (fs9 4), aI G (qa 5) (64 * 2 ^ j) (fs9 5), aI G (qa 6) (64 * 2 ^ j) (fs9 6), aI G (qa 7) (2 ^ (8 + j)) (fs9 7), oW (ad 10) [.ref (ad 11), .ref (ad 12), zv 0], aI G (ad 11) 4 (js 1), aI G (ad 12) 8 (js 2), oW (ad 13) [.ref (ad 14), .ref (ad 15), zv 1], aI G (ad 14) 4 (js 3), aI G (ad 15) 8 (js 4), aI G (ad 16) 4 (js 0), aR G (ad 17) 40 (va_up rr rs.length (some ra)), oW (ad 18) [.ref (ad 19), .ref (ad 20), zv 3], aI G (ad 19) 4 (js 5), aI G (ad 20) 8 (js 6)]) (rp := rp) (D := [oR ra [.int (nI a), .int (evI ev), .int (nI b), .ref ka, .ref wa, .int (nI 0)], aI G ka 4 (fun _ => 0), aI G wa 4 (fun _ => 0)]) hw
            exact r_ret hQ (r_iret (qa, fm, fs9, js, zv, va_up rr rs.length (some ra), rp ++ [oR ra [.int (nI a), .int (evI ev), .int (nI b), .ref ka, .ref wa, .int (nI 0)], aI G ka 4 (fun _ => 0), aI G wa 4 (fun _ => 0)]) hx hb hr hlk hw (⟨rfl, XR.empty hj7 (by rw [efs9]; exact hp), RP.snoc hrp (by omega) (by omega) (by omega) (fun k hk => Nat.lt_of_lt_of_le (hev k hk) hK6)⟩) (by omega) (by omega) d_X_rule_93)
set_option maxHeartbeats 4000000 in
set_option maxRecDepth 100000 in
theorem c_X_sends (zl : Launch) (G : GG) (ad qa : Nat → Nat) (fm : Nat → Int64) (fs js : Nat → Nat → Int32) (zv : Nat → Value) (fb fn : Nat → Int32) (rr : Nat → Option Nat) (rp : va_W) (n room Sx Kx j : Nat) (ps : List (List Nat)) (B : Nat → Bool) (rs : List Rl) (E : List Ent) (S : List Nat) (md ag ov i ms wh : Nat) (hj7 : j ≤ 7) (hrp : RP G rr rs rp) (hi : i < rs.length) (hms : ms < Kx) (hK6 : Kx ≤ 6) (hwh : wh = 1 ∨ (wh = 0 ∧ (rs.getD i rD).2.1 ≠ none)) (hs4 : (rs.getD i rD).2.2.2.length < 4) : Ctr (S := (Nat → Nat) × (Nat → Int64) × (Nat → Nat → Int32) × (Nat → Nat → Int32) × (Nat → Value) × (Nat → Option Nat) × va_W) vI zl y_X_sends b_X_sends 5 (Option.some Jvm.ClassFile.FieldType.int) 1 0 0 G [.ref (ad 0), .int (nI i), .int (nI ms), .int (nI wh)] ([oX (ad 0) [.int (nI n), .int (nI room), .int (nI Sx), .int (nI Kx), .ref (ad 17), .int (nI rs.length), .ref (ad 1), .ref (ad 2), .int (nI ps.length), .ref (qa 1), .ref (qa 2), .ref (qa 3), .ref (qa 4), .ref (qa 5), .ref (qa 6), .int (nI E.length), .int (nI S.length), .ref (qa 7), .int (boF ov E.length), .int (fuF ov), .int (nI md), .int (nI ag), .ref (ad 18), .ref (ad 10), .ref (ad 13), .ref (ad 16), zv 2], aZ G (ad 1) 64 fb, aI G (ad 2) 96 fn, aJ G (qa 1) (64 * 2 ^ j) fm, aI G (qa 2) (64 * 2 ^ j) (fs 2), aI G (qa 3) (64 * 2 ^ j) (fs 3), aI G (qa 4) (64 * 2 ^ j) (fs 4), aI G (qa 5) (64 * 2 ^ j) (fs 5), aI G (qa 6) (64 * 2 ^ j) (fs 6), aI G (qa 7) (2 ^ (8 + j)) (fs 7), oW (ad 10) [.ref (ad 11), .ref (ad 12), zv 0], aI G (ad 11) 4 (js 1), aI G (ad 12) 8 (js 2), oW (ad 13) [.ref (ad 14), .ref (ad 15), zv 1], aI G (ad 14) 4 (js 3), aI G (ad 15) 8 (js 4), aI G (ad 16) 4 (js 0), aR G (ad 17) 40 rr, oW (ad 18) [.ref (ad 19), .ref (ad 20), zv 3], aI G (ad 19) 4 (js 5), aI G (ad 20) 8 (js 6)] ++ rp) (fun r u => r = nI ((rs.getD i rD).2.2.2.length + 1) ∧ XR ([] : List Ent) j u.2.1 u.2.2.1 ∧ RP G u.2.2.2.2.2.1 (rs.set i ((rs.getD i rD).1, (rs.getD i rD).2.1, (rs.getD i rD).2.2.1, (rs.getD i rD).2.2.2 ++ [(ms, wh)])) u.2.2.2.2.2.2) (fun u => [oX (ad 0) [.int (nI n), .int (nI room), .int (nI Sx), .int (nI Kx), .ref (ad 17), .int (nI ((rs.set i ((rs.getD i rD).1, (rs.getD i rD).2.1, (rs.getD i rD).2.2.1, (rs.getD i rD).2.2.2 ++ [(ms, wh)])).length)), .ref (ad 1), .ref (ad 2), .int (nI ps.length), .ref (u.1 1), .ref (u.1 2), .ref (u.1 3), .ref (u.1 4), .ref (u.1 5), .ref (u.1 6), .int (nI (([] : List Ent).length)), .int (nI 0), .ref (u.1 7), .int (boF 0 ([] : List Ent).length), .int (fuF 0), .int (nI 0), .int (nI 0), .ref (ad 18), .ref (ad 10), .ref (ad 13), .ref (ad 16), u.2.2.2.2.1 2], aZ G (ad 1) 64 fb, aI G (ad 2) 96 fn, aJ G (u.1 1) (64 * 2 ^ j) u.2.1, aI G (u.1 2) (64 * 2 ^ j) (u.2.2.1 2), aI G (u.1 3) (64 * 2 ^ j) (u.2.2.1 3), aI G (u.1 4) (64 * 2 ^ j) (u.2.2.1 4), aI G (u.1 5) (64 * 2 ^ j) (u.2.2.1 5), aI G (u.1 6) (64 * 2 ^ j) (u.2.2.1 6), aI G (u.1 7) (2 ^ (8 + j)) (u.2.2.1 7), oW (ad 10) [.ref (ad 11), .ref (ad 12), u.2.2.2.2.1 0], aI G (ad 11) 4 (u.2.2.2.1 1), aI G (ad 12) 8 (u.2.2.2.1 2), oW (ad 13) [.ref (ad 14), .ref (ad 15), u.2.2.2.2.1 1], aI G (ad 14) 4 (u.2.2.2.1 3), aI G (ad 15) 8 (u.2.2.2.1 4), aI G (ad 16) 4 (u.2.2.2.1 0), aR G (ad 17) 40 u.2.2.2.2.2.1, oW (ad 18) [.ref (ad 19), .ref (ad 20), u.2.2.2.2.1 3], aI G (ad 19) 4 (u.2.2.2.1 5), aI G (ad 20) 8 (u.2.2.2.1 6)] ++ u.2.2.2.2.2.2) := by
  refine Ctr.start (by decide) (Nat.le_of_ble_eq_true rfl) ?_
  intro zp ze zs zm below meth zc A ls C0 hin hK hA hl hw
  obtain ⟨hx, hb, hr, hlk, hml, hown, hts⟩ := C0
  obtain ⟨R, hRR⟩ : ∃ R : Room, R = rmL 1 0 0 := ⟨_, rfl⟩
  have hRf : R.frames = 1 := by rw [hRR]
  have hRl : R.locals = 64 * 1 := by rw [hRR]
  have hRc : R.cells = 0 := by rw [hRR]
  have hRs : R.slots = 0 := by rw [hRR]
  rw [← hRR]; clear hRR
  generalize hQ : MQ below _ _ zs _ _ A = Q
  generalize hAr : List.toArray _ = args at hts hQ ⊢
  replace hl : lv_has ls 5 [(0, .ref (ad 0)), (1, .int (nI i)), (2, .int (nI ms)), (3, .int (nI wh))] := hl
  obtain ⟨H, eH⟩ : ∃ H : Heap, H = zs.heap := ⟨_, rfl⟩
  obtain ⟨locs, eL⟩ : ∃ l0 : List Loc, l0 = [] := ⟨_, rfl⟩
  rw [← eH, ← eL] at hw ⊢; clear eH eL
  have hpw := pow_mono hj7
  have hpe : 2 ^ (8 + j) = 256 * 2 ^ j := by rw [Nat.pow_add]
  have hrp0 := hrp
  obtain ⟨ra, ka, wa, fk9, fw9, hr0, hr1, hr2, hr3, hr4, hr5⟩ := hrp.2.2.2 i hi
  have hrl := hrp.1
  have hrk := (rs_at hrp.2.1 hi).2.1
  obtain ⟨pa, pb, hrpe, hpa⟩ := tail_split hr1 hr2 hr3
  subst hrpe
  replace hw : WW G A zs ([oX (ad 0) [.int (nI n), .int (nI room), .int (nI Sx), .int (nI Kx), .ref (ad 17), .int (nI rs.length), .ref (ad 1), .ref (ad 2), .int (nI ps.length), .ref (qa 1), .ref (qa 2), .ref (qa 3), .ref (qa 4), .ref (qa 5), .ref (qa 6), .int (nI E.length), .int (nI S.length), .ref (qa 7), .int (boF ov E.length), .int (fuF ov), .int (nI md), .int (nI ag), .ref (ad 18), .ref (ad 10), .ref (ad 13), .ref (ad 16), zv 2], aZ G (ad 1) 64 fb, aI G (ad 2) 96 fn, aJ G (qa 1) (64 * 2 ^ j) fm, aI G (qa 2) (64 * 2 ^ j) (fs 2), aI G (qa 3) (64 * 2 ^ j) (fs 3), aI G (qa 4) (64 * 2 ^ j) (fs 4), aI G (qa 5) (64 * 2 ^ j) (fs 5), aI G (qa 6) (64 * 2 ^ j) (fs 6), aI G (qa 7) (2 ^ (8 + j)) (fs 7), oW (ad 10) [.ref (ad 11), .ref (ad 12), zv 0], aI G (ad 11) 4 (js 1), aI G (ad 12) 8 (js 2), oW (ad 13) [.ref (ad 14), .ref (ad 15), zv 1], aI G (ad 14) 4 (js 3), aI G (ad 15) 8 (js 4), aI G (ad 16) 4 (js 0), aR G (ad 17) 40 rr, oW (ad 18) [.ref (ad 19), .ref (ad 20), zv 3], aI G (ad 19) 4 (js 5), aI G (ad 20) 8 (js 6), oR ra [.int (nI ((rs.getD i rD).1)), .int (evI (rs.getD i rD).2.1), .int (nI ((rs.getD i rD).2.2.1)), .ref ka, .ref wa, .int (nI ((rs.getD i rD).2.2.2.length))], aI G ka 4 fk9, aI G wa 4 fw9] ++ (pa ++ pb)) H locs := WW.out (C := [oX (ad 0) [.int (nI n), .int (nI room), .int (nI Sx), .int (nI Kx), .ref (ad 17), .int (nI rs.length), .ref (ad 1), .ref (ad 2), .int (nI ps.length), .ref (qa 1), .ref (qa 2), .ref (qa 3), .ref (qa 4), .ref (qa 5), .ref (qa 6), .int (nI E.length), .int (nI S.length), .ref (qa 7), .int (boF ov E.length), .int (fuF ov), .int (nI md), .int (nI ag), .ref (ad 18), .ref (ad 10), .ref (ad 13), .ref (ad 16), zv 2], aZ G (ad 1) 64 fb, aI G (ad 2) 96 fn, aJ G (qa 1) (64 * 2 ^ j) fm, aI G (qa 2) (64 * 2 ^ j) (fs 2), aI G (qa 3) (64 * 2 ^ j) (fs 3), aI G (qa 4) (64 * 2 ^ j) (fs 4), aI G (qa 5) (64 * 2 ^ j) (fs 5), aI G (qa 6) (64 * 2 ^ j) (fs 6), aI G (qa 7) (2 ^ (8 + j)) (fs 7), oW (ad 10) [.ref (ad 11), .ref (ad 12), zv 0], aI G (ad 11) 4 (js 1), aI G (ad 12) 8 (js 2), oW (ad 13) [.ref (ad 14), .ref (ad 15), zv 1], aI G (ad 14) 4 (js 3), aI G (ad 15) 8 (js 4), aI G (ad 16) 4 (js 0), aR G (ad 17) 40 rr, oW (ad 18) [.ref (ad 19), .ref (ad 20), zv 3], aI G (ad 19) 4 (js 5), aI G (ad 20) 8 (js 6)]) (ra := pa) (rb := pb) (D := [oR ra [.int (nI ((rs.getD i rD).1)), .int (evI (rs.getD i rD).2.1), .int (nI ((rs.getD i rD).2.2.1)), .ref ka, .ref wa, .int (nI ((rs.getD i rD).2.2.2.length))], aI G ka 4 fk9, aI G wa 4 fw9]) hw
  refine lv_iload_n hx hb d_X_sends_0 rfl (lv_at hl 1 rfl) ?_
  refine lv_if_lt (tgt := 50) hx hb d_X_sends_1 (by decide) (fun c_1 => ?_) (fun c_1 => ?_)
  · skip
    exact absurd c_1 (nI_pos (by omega))
  · skip
    refine lv_iload_n hx hb d_X_sends_4 rfl (lv_at hl 1 rfl) ?_
    refine lv_aload_n hx hb d_X_sends_5 rfl (lv_at hl 0 rfl) ?_
    refine g_X_129 hx hb hts hown hK hw 0 rfl rfl d_X_sends_6 ?_
    refine r_icmp_ge (tgt := 50) hx hb (by omega) (by omega) d_X_sends_9 (by decide) (fun c_9 => ?_) (fun c_9 => ?_)
    · skip
      exfalso; omega
    · skip
      refine lv_iload_n hx hb d_X_sends_12 rfl (lv_at hl 2 rfl) ?_
      refine lv_if_lt (tgt := 50) hx hb d_X_sends_13 (by decide) (fun c_13 => ?_) (fun c_13 => ?_)
      · skip
        exact absurd c_13 (nI_pos (by omega))
      · skip
        refine lv_iload_n hx hb d_X_sends_16 rfl (lv_at hl 2 rfl) ?_
        refine lv_aload_n hx hb d_X_sends_17 rfl (lv_at hl 0 rfl) ?_
        refine g_X_119 hx hb hts hown hK hw 0 rfl rfl d_X_sends_18 ?_
        refine r_icmp_ge (tgt := 50) hx hb (by omega) (by omega) d_X_sends_21 (by decide) (fun c_21 => ?_) (fun c_21 => ?_)
        · skip
          exfalso; omega
        · skip
          refine lv_iload_n hx hb d_X_sends_24 rfl (lv_at hl 3 rfl) ?_
          refine lv_iconst (v := nI 1) hx hb d_X_sends_25 rfl ?_
          refine r_icmp_eq (tgt := 46) hx hb (by omega) (by omega) d_X_sends_26 (by decide) (fun c_26 => ?_) (fun c_26 => ?_)
          · skip
            refine lv_iconst (v := nI 1) hx hb d_X_sends_46 rfl ?_
            refine lv_goto (tgt := 51) hx hb d_X_sends_47 (by decide) ?_
            refine xS_v (rest := []) (As := [.int (nI 1)]) hx hb hml hown hts hK hA hw k_X_126 (c_X_right zl G) ([]) rfl rfl (fun _ => Nat.le_of_ble_eq_true rfl) rfl rfl hl.1 (Nat.le_of_ble_eq_true rfl) ⟨(by omega), (by omega)⟩ ⟨(by omega), (by omega)⟩ d_X_sends_51 (fun _ u H locs hp hw1 => ?_)
            refine W.cs (cells' := 0) (slots' := 0) rfl rfl ?_
            replace hw : WW G A zs ([oX (ad 0) [.int (nI n), .int (nI room), .int (nI Sx), .int (nI Kx), .ref (ad 17), .int (nI rs.length), .ref (ad 1), .ref (ad 2), .int (nI ps.length), .ref (qa 1), .ref (qa 2), .ref (qa 3), .ref (qa 4), .ref (qa 5), .ref (qa 6), .int (nI E.length), .int (nI S.length), .ref (qa 7), .int (boF ov E.length), .int (fuF ov), .int (nI md), .int (nI ag), .ref (ad 18), .ref (ad 10), .ref (ad 13), .ref (ad 16), zv 2], aZ G (ad 1) 64 fb, aI G (ad 2) 96 fn, aJ G (qa 1) (64 * 2 ^ j) fm, aI G (qa 2) (64 * 2 ^ j) (fs 2), aI G (qa 3) (64 * 2 ^ j) (fs 3), aI G (qa 4) (64 * 2 ^ j) (fs 4), aI G (qa 5) (64 * 2 ^ j) (fs 5), aI G (qa 6) (64 * 2 ^ j) (fs 6), aI G (qa 7) (2 ^ (8 + j)) (fs 7), oW (ad 10) [.ref (ad 11), .ref (ad 12), zv 0], aI G (ad 11) 4 (js 1), aI G (ad 12) 8 (js 2), oW (ad 13) [.ref (ad 14), .ref (ad 15), zv 1], aI G (ad 14) 4 (js 3), aI G (ad 15) 8 (js 4), aI G (ad 16) 4 (js 0), aR G (ad 17) 40 rr, oW (ad 18) [.ref (ad 19), .ref (ad 20), zv 3], aI G (ad 19) 4 (js 5), aI G (ad 20) 8 (js 6), oR ra [.int (nI ((rs.getD i rD).1)), .int (evI (rs.getD i rD).2.1), .int (nI ((rs.getD i rD).2.2.1)), .ref ka, .ref wa, .int (nI ((rs.getD i rD).2.2.2.length))], aI G ka 4 fk9, aI G wa 4 fw9] ++ (pa ++ pb)) H locs := hw1
            refine lv_aload_n hx hb d_X_sends_54 rfl (lv_at hl 0 rfl) ?_
            refine g_X_15 hx hb hts hown hK hw 0 rfl rfl d_X_sends_55 ?_
            refine lv_iload_n hx hb d_X_sends_58 rfl (lv_at hl 1 rfl) ?_
            refine r_aald hx hb hK hw 17 rfl (by omega) (by omega) hr0 d_X_sends_59 ?_
            refine lv_astore (lv' := [(4, .ref ra), (0, .ref (ad 0)), (1, .int (nI i)), (2, .int (nI ms)), (3, .int (nI wh))]) hx hb d_X_sends_60 hl (by decide) rfl (fun ls hl => ?_)
            refine lv_aload hx hb d_X_sends_62 (lv_at hl 0 rfl) ?_
            refine g_X_138 hx hb hts hown hK hw 21 rfl rfl d_X_sends_64 ?_
            refine lv_iconst (v := nI 4) hx hb d_X_sends_67 rfl ?_
            refine r_icmp_ge (tgt := 75) hx hb (by omega) (by omega) d_X_sends_68 (by decide) (fun c_68 => ?_) (fun c_68 => ?_)
            · skip
              exfalso; omega
            · skip
              refine lv_iconst (v := nI 1) hx hb d_X_sends_71 rfl ?_
              refine lv_goto (tgt := 76) hx hb d_X_sends_72 (by decide) ?_
              refine xS_v (rest := []) (As := [.int (nI 1)]) hx hb hml hown hts hK hA hw k_X_115 (c_X_allowed zl G) ([]) rfl rfl (fun _ => Nat.le_of_ble_eq_true rfl) rfl rfl hl.1 (Nat.le_of_ble_eq_true rfl) ⟨(by omega), (by omega)⟩ ⟨(by omega), (by omega)⟩ d_X_sends_76 (fun _ u H locs hp hw1 => ?_)
              refine W.cs (cells' := 0) (slots' := 0) rfl rfl ?_
              replace hw : WW G A zs ([oX (ad 0) [.int (nI n), .int (nI room), .int (nI Sx), .int (nI Kx), .ref (ad 17), .int (nI rs.length), .ref (ad 1), .ref (ad 2), .int (nI ps.length), .ref (qa 1), .ref (qa 2), .ref (qa 3), .ref (qa 4), .ref (qa 5), .ref (qa 6), .int (nI E.length), .int (nI S.length), .ref (qa 7), .int (boF ov E.length), .int (fuF ov), .int (nI md), .int (nI ag), .ref (ad 18), .ref (ad 10), .ref (ad 13), .ref (ad 16), zv 2], aZ G (ad 1) 64 fb, aI G (ad 2) 96 fn, aJ G (qa 1) (64 * 2 ^ j) fm, aI G (qa 2) (64 * 2 ^ j) (fs 2), aI G (qa 3) (64 * 2 ^ j) (fs 3), aI G (qa 4) (64 * 2 ^ j) (fs 4), aI G (qa 5) (64 * 2 ^ j) (fs 5), aI G (qa 6) (64 * 2 ^ j) (fs 6), aI G (qa 7) (2 ^ (8 + j)) (fs 7), oW (ad 10) [.ref (ad 11), .ref (ad 12), zv 0], aI G (ad 11) 4 (js 1), aI G (ad 12) 8 (js 2), oW (ad 13) [.ref (ad 14), .ref (ad 15), zv 1], aI G (ad 14) 4 (js 3), aI G (ad 15) 8 (js 4), aI G (ad 16) 4 (js 0), aR G (ad 17) 40 rr, oW (ad 18) [.ref (ad 19), .ref (ad 20), zv 3], aI G (ad 19) 4 (js 5), aI G (ad 20) 8 (js 6), oR ra [.int (nI ((rs.getD i rD).1)), .int (evI (rs.getD i rD).2.1), .int (nI ((rs.getD i rD).2.2.1)), .ref ka, .ref wa, .int (nI ((rs.getD i rD).2.2.2.length))], aI G ka 4 fk9, aI G wa 4 fw9] ++ (pa ++ pb)) H locs := hw1
              refine lv_aload hx hb d_X_sends_79 (lv_at hl 0 rfl) ?_
              refine g_X_139 hx hb hts hown hK hw 21 rfl rfl d_X_sends_81 ?_
              refine lv_aload hx hb d_X_sends_84 (lv_at hl 0 rfl) ?_
              refine g_X_138 hx hb hts hown hK hw 21 rfl rfl d_X_sends_86 ?_
              refine lv_iload_n hx hb d_X_sends_89 rfl (lv_at hl 3 rfl) ?_
              refine r_iast hx hb hK hw 22 rfl (by omega) (by omega) d_X_sends_90 (fun H locs hw1 => ?_)
              replace hw : WW G A zs ([oX (ad 0) [.int (nI n), .int (nI room), .int (nI Sx), .int (nI Kx), .ref (ad 17), .int (nI rs.length), .ref (ad 1), .ref (ad 2), .int (nI ps.length), .ref (qa 1), .ref (qa 2), .ref (qa 3), .ref (qa 4), .ref (qa 5), .ref (qa 6), .int (nI E.length), .int (nI S.length), .ref (qa 7), .int (boF ov E.length), .int (fuF ov), .int (nI md), .int (nI ag), .ref (ad 18), .ref (ad 10), .ref (ad 13), .ref (ad 16), zv 2], aZ G (ad 1) 64 fb, aI G (ad 2) 96 fn, aJ G (qa 1) (64 * 2 ^ j) fm, aI G (qa 2) (64 * 2 ^ j) (fs 2), aI G (qa 3) (64 * 2 ^ j) (fs 3), aI G (qa 4) (64 * 2 ^ j) (fs 4), aI G (qa 5) (64 * 2 ^ j) (fs 5), aI G (qa 6) (64 * 2 ^ j) (fs 6), aI G (qa 7) (2 ^ (8 + j)) (fs 7), oW (ad 10) [.ref (ad 11), .ref (ad 12), zv 0], aI G (ad 11) 4 (js 1), aI G (ad 12) 8 (js 2), oW (ad 13) [.ref (ad 14), .ref (ad 15), zv 1], aI G (ad 14) 4 (js 3), aI G (ad 15) 8 (js 4), aI G (ad 16) 4 (js 0), aR G (ad 17) 40 rr, oW (ad 18) [.ref (ad 19), .ref (ad 20), zv 3], aI G (ad 19) 4 (js 5), aI G (ad 20) 8 (js 6), oR ra [.int (nI ((rs.getD i rD).1)), .int (evI (rs.getD i rD).2.1), .int (nI ((rs.getD i rD).2.2.1)), .ref ka, .ref wa, .int (nI ((rs.getD i rD).2.2.2.length))], aI G ka 4 (upd fk9 ((rs.getD i rD).2.2.2.length) (nI ms)), aI G wa 4 fw9] ++ (pa ++ pb)) H locs := hw1
              refine lv_aload hx hb d_X_sends_91 (lv_at hl 0 rfl) ?_
              refine g_X_141 hx hb hts hown hK hw 21 rfl rfl d_X_sends_93 ?_
              refine lv_aload hx hb d_X_sends_96 (lv_at hl 0 rfl) ?_
              refine g_X_138 hx hb hts hown hK hw 21 rfl rfl d_X_sends_98 ?_
              refine lv_iload_n hx hb d_X_sends_101 rfl (lv_at hl 4 rfl) ?_
              refine r_iast hx hb hK hw 23 rfl (by omega) (by omega) d_X_sends_102 (fun H locs hw1 => ?_)
              replace hw : WW G A zs ([oX (ad 0) [.int (nI n), .int (nI room), .int (nI Sx), .int (nI Kx), .ref (ad 17), .int (nI rs.length), .ref (ad 1), .ref (ad 2), .int (nI ps.length), .ref (qa 1), .ref (qa 2), .ref (qa 3), .ref (qa 4), .ref (qa 5), .ref (qa 6), .int (nI E.length), .int (nI S.length), .ref (qa 7), .int (boF ov E.length), .int (fuF ov), .int (nI md), .int (nI ag), .ref (ad 18), .ref (ad 10), .ref (ad 13), .ref (ad 16), zv 2], aZ G (ad 1) 64 fb, aI G (ad 2) 96 fn, aJ G (qa 1) (64 * 2 ^ j) fm, aI G (qa 2) (64 * 2 ^ j) (fs 2), aI G (qa 3) (64 * 2 ^ j) (fs 3), aI G (qa 4) (64 * 2 ^ j) (fs 4), aI G (qa 5) (64 * 2 ^ j) (fs 5), aI G (qa 6) (64 * 2 ^ j) (fs 6), aI G (qa 7) (2 ^ (8 + j)) (fs 7), oW (ad 10) [.ref (ad 11), .ref (ad 12), zv 0], aI G (ad 11) 4 (js 1), aI G (ad 12) 8 (js 2), oW (ad 13) [.ref (ad 14), .ref (ad 15), zv 1], aI G (ad 14) 4 (js 3), aI G (ad 15) 8 (js 4), aI G (ad 16) 4 (js 0), aR G (ad 17) 40 rr, oW (ad 18) [.ref (ad 19), .ref (ad 20), zv 3], aI G (ad 19) 4 (js 5), aI G (ad 20) 8 (js 6), oR ra [.int (nI ((rs.getD i rD).1)), .int (evI (rs.getD i rD).2.1), .int (nI ((rs.getD i rD).2.2.1)), .ref ka, .ref wa, .int (nI ((rs.getD i rD).2.2.2.length))], aI G ka 4 (upd fk9 ((rs.getD i rD).2.2.2.length) (nI ms)), aI G wa 4 (upd fw9 ((rs.getD i rD).2.2.2.length) (nI wh))] ++ (pa ++ pb)) H locs := hw1
              refine lv_aload hx hb d_X_sends_103 (lv_at hl 0 rfl) ?_
              refine lv_dup hx hb d_X_sends_105 rfl ?_
              refine g_X_138 hx hb hts hown hK hw 21 rfl rfl d_X_sends_106 ?_
              refine lv_iconst (v := nI 1) hx hb d_X_sends_109 rfl ?_
              refine r_iaddN hx hb d_X_sends_110 ?_
              refine p_X_138 hx hb hts hown hK hw 21 rfl (Nat.le_of_ble_eq_true rfl) d_X_sends_111 (fun H locs hw1 => ?_)
              replace hw : WW G A zs ([oX (ad 0) [.int (nI n), .int (nI room), .int (nI Sx), .int (nI Kx), .ref (ad 17), .int (nI rs.length), .ref (ad 1), .ref (ad 2), .int (nI ps.length), .ref (qa 1), .ref (qa 2), .ref (qa 3), .ref (qa 4), .ref (qa 5), .ref (qa 6), .int (nI E.length), .int (nI S.length), .ref (qa 7), .int (boF ov E.length), .int (fuF ov), .int (nI md), .int (nI ag), .ref (ad 18), .ref (ad 10), .ref (ad 13), .ref (ad 16), zv 2], aZ G (ad 1) 64 fb, aI G (ad 2) 96 fn, aJ G (qa 1) (64 * 2 ^ j) fm, aI G (qa 2) (64 * 2 ^ j) (fs 2), aI G (qa 3) (64 * 2 ^ j) (fs 3), aI G (qa 4) (64 * 2 ^ j) (fs 4), aI G (qa 5) (64 * 2 ^ j) (fs 5), aI G (qa 6) (64 * 2 ^ j) (fs 6), aI G (qa 7) (2 ^ (8 + j)) (fs 7), oW (ad 10) [.ref (ad 11), .ref (ad 12), zv 0], aI G (ad 11) 4 (js 1), aI G (ad 12) 8 (js 2), oW (ad 13) [.ref (ad 14), .ref (ad 15), zv 1], aI G (ad 14) 4 (js 3), aI G (ad 15) 8 (js 4), aI G (ad 16) 4 (js 0), aR G (ad 17) 40 rr, oW (ad 18) [.ref (ad 19), .ref (ad 20), zv 3], aI G (ad 19) 4 (js 5), aI G (ad 20) 8 (js 6), oR ra [.int (nI ((rs.getD i rD).1)), .int (evI (rs.getD i rD).2.1), .int (nI ((rs.getD i rD).2.2.1)), .ref ka, .ref wa, .int (nI (((rs.getD i rD).2.2.2.length) + 1))], aI G ka 4 (upd fk9 ((rs.getD i rD).2.2.2.length) (nI ms)), aI G wa 4 (upd fw9 ((rs.getD i rD).2.2.2.length) (nI wh))] ++ (pa ++ pb)) H locs := hw1
              refine lv_aload_n hx hb d_X_sends_114 rfl (lv_at hl 1 rfl) ?_
              refine xV_v (rest := []) (As := []) hx hb hml hown hts hK hA hw k_X_84 (c_X_forget zl G (ad 0) (qa 7) (2 ^ (8 + j)) (.int (nI n)) (.int (nI room)) (.int (nI Sx)) (.int (nI Kx)) (.ref (ad 17)) (.int (nI rs.length)) (.ref (ad 1)) (.ref (ad 2)) (.int (nI ps.length)) (.ref (qa 1)) (.ref (qa 2)) (.ref (qa 3)) (.ref (qa 4)) (.ref (qa 5)) (.ref (qa 6)) (.int (nI E.length)) (.int (nI S.length)) (.int (boF ov E.length)) (.int (fuF ov)) (.int (nI md)) (.int (nI ag)) (.ref (ad 18)) (.ref (ad 10)) (.ref (ad 13)) (.ref (ad 16)) (zv 2) (fs 7) (by omega)) ([0, 9]) rfl rfl (fun _ => Nat.le_of_ble_eq_true rfl) 0 rfl rfl rfl rfl hl.1 (Nat.le_of_ble_eq_true rfl) ⟨(by omega), (by omega)⟩ ⟨(by omega), (by omega)⟩ d_X_sends_115 (fun _ tb9 H locs hp hw1 => ?_)
              obtain ⟨fs9, efs9⟩ : ∃ g : Nat → Nat → Int32, g = va_up fs 7 tb9 := ⟨_, rfl⟩
              refine W.cs (cells' := 0) (slots' := 0) rfl rfl ?_
              replace hw : WW G A zs ([oX (ad 0) [.int (nI n), .int (nI room), .int (nI Sx), .int (nI Kx), .ref (ad 17), .int (nI rs.length), .ref (ad 1), .ref (ad 2), .int (nI ps.length), .ref (qa 1), .ref (qa 2), .ref (qa 3), .ref (qa 4), .ref (qa 5), .ref (qa 6), .int (nI (([] : List Ent).length)), .int (nI 0), .ref (qa 7), .int (boF 0 ([] : List Ent).length), .int (fuF 0), .int (nI 0), .int (nI 0), .ref (ad 18), .ref (ad 10), .ref (ad 13), .ref (ad 16), zv 2], aZ G (ad 1) 64 fb, aI G (ad 2) 96 fn, aJ G (qa 1) (64 * 2 ^ j) fm, aI G (qa 2) (64 * 2 ^ j) (fs 2), aI G (qa 3) (64 * 2 ^ j) (fs 3), aI G (qa 4) (64 * 2 ^ j) (fs 4), aI G (qa 5) (64 * 2 ^ j) (fs 5), aI G (qa 6) (64 * 2 ^ j) (fs 6), aI G (qa 7) (2 ^ (8 + j)) tb9, oW (ad 10) [.ref (ad 11), .ref (ad 12), zv 0], aI G (ad 11) 4 (js 1), aI G (ad 12) 8 (js 2), oW (ad 13) [.ref (ad 14), .ref (ad 15), zv 1], aI G (ad 14) 4 (js 3), aI G (ad 15) 8 (js 4), aI G (ad 16) 4 (js 0), aR G (ad 17) 40 rr, oW (ad 18) [.ref (ad 19), .ref (ad 20), zv 3], aI G (ad 19) 4 (js 5), aI G (ad 20) 8 (js 6), oR ra [.int (nI ((rs.getD i rD).1)), .int (evI (rs.getD i rD).2.1), .int (nI ((rs.getD i rD).2.2.1)), .ref ka, .ref wa, .int (nI (((rs.getD i rD).2.2.2.length) + 1))], aI G ka 4 (upd fk9 ((rs.getD i rD).2.2.2.length) (nI ms)), aI G wa 4 (upd fw9 ((rs.getD i rD).2.2.2.length) (nI wh))] ++ (pa ++ pb)) H locs := hw1
              replace hw : WW G A zs ([oX (ad 0) [.int (nI n), .int (nI room), .int (nI Sx), .int (nI Kx), .ref (ad 17), .int (nI ((rs.set i ((rs.getD i rD).1, (rs.getD i rD).2.1, (rs.getD i rD).2.2.1, (rs.getD i rD).2.2.2 ++ [(ms, wh)])).length)), .ref (ad 1), .ref (ad 2), .int (nI ps.length), .ref (qa 1), .ref (qa 2), .ref (qa 3), .ref (qa 4), .ref (qa 5), .ref (qa 6), .int (nI (([] : List Ent).length)), .int (nI 0), .ref (qa 7), .int (boF 0 ([] : List Ent).length), .int (fuF 0), .int (nI 0), .int (nI 0), .ref (ad 18), .ref (ad 10), .ref (ad 13), .ref (ad 16), zv 2], aZ G (ad 1) 64 fb, aI G (ad 2) 96 fn, aJ G (qa 1) (64 * 2 ^ j) fm, aI G (qa 2) (64 * 2 ^ j) (fs9 2), aI G (qa 3) (64 * 2 ^ j) (fs9 3), aI G (qa 4) (64 * 2 ^ j) (fs9 4), aI G (qa 5) (64 * 2 ^ j) (fs9 5), aI G (qa 6) (64 * 2 ^ j) (fs9 6), aI G (qa 7) (2 ^ (8 + j)) (fs9 7), oW (ad 10) [.ref (ad 11), .ref (ad 12), zv 0], aI G (ad 11) 4 (js 1), aI G (ad 12) 8 (js 2), oW (ad 13) [.ref (ad 14), .ref (ad 15), zv 1], aI G (ad 14) 4 (js 3), aI G (ad 15) 8 (js 4), aI G (ad 16) 4 (js 0), aR G (ad 17) 40 rr, oW (ad 18) [.ref (ad 19), .ref (ad 20), zv 3], aI G (ad 19) 4 (js 5), aI G (ad 20) 8 (js 6), oR ra [.int (nI ((rs.getD i rD).1)), .int (evI (rs.getD i rD).2.1), .int (nI ((rs.getD i rD).2.2.1)), .ref ka, .ref wa, .int (nI (((rs.getD i rD).2.2.2.length) + 1))], aI G ka 4 (upd fk9 ((rs.getD i rD).2.2.2.length) (nI ms)), aI G wa 4 (upd fw9 ((rs.getD i rD).2.2.2.length) (nI wh))] ++ (pa ++ pb)) H locs := by rw [efs9]; rw [List.length_set]; exact hw
              refine lv_aload hx hb d_X_sends_118 (lv_at hl 0 rfl) ?_
              refine g_X_138 hx hb hts hown hK hw 21 rfl rfl d_X_sends_120 ?_
              replace hw := WW.inn (C := [oX (ad 0) [.int (nI n), .int (nI room), .int (nI Sx), .int (nI Kx), .ref (ad 17), .int (nI ((rs.set i ((rs.getD i rD).1, (rs.getD i rD).2.1, (rs.getD i rD).2.2.1, (rs.getD i rD).2.2.2 ++ [(ms, wh)])).length)), .ref (ad 1), .ref (ad 2), .int (nI ps.length), .ref (qa 1), .ref (qa 2), .ref (qa 3), .ref (qa 4), .ref (qa 5), .ref (qa 6), .int (nI (([] : List Ent).length)), .int (nI 0), .ref (qa 7), .int (boF 0 ([] : List Ent).length), .int (fuF 0), .int (nI 0), .int (nI 0), .ref (ad 18), .ref (ad 10), .ref (ad 13), .ref (ad 16), zv 2], aZ G (ad 1) 64 fb, aI G (ad 2) 96 fn, aJ G (qa 1) (64 * 2 ^ j) fm, aI G (qa 2) (64 * 2 ^ j) (fs9 2), aI G (qa 3) (64 * 2 ^ j) (fs9 3), aI G (qa 4) (64 * 2 ^ j) (fs9 4), aI G (qa 5) (64 * 2 ^ j) (fs9 5), aI G (qa 6) (64 * 2 ^ j) (fs9 6), aI G (qa 7) (2 ^ (8 + j)) (fs9 7), oW (ad 10) [.ref (ad 11), .ref (ad 12), zv 0], aI G (ad 11) 4 (js 1), aI G (ad 12) 8 (js 2), oW (ad 13) [.ref (ad 14), .ref (ad 15), zv 1], aI G (ad 14) 4 (js 3), aI G (ad 15) 8 (js 4), aI G (ad 16) 4 (js 0), aR G (ad 17) 40 rr, oW (ad 18) [.ref (ad 19), .ref (ad 20), zv 3], aI G (ad 19) 4 (js 5), aI G (ad 20) 8 (js 6)]) (ra := pa) (rb := pb) (D := [oR ra [.int (nI ((rs.getD i rD).1)), .int (evI (rs.getD i rD).2.1), .int (nI ((rs.getD i rD).2.2.1)), .ref ka, .ref wa, .int (nI ((rs.getD i rD).2.2.2.length + 1))], aI G ka 4 (upd fk9 (rs.getD i rD).2.2.2.length (nI ms)), aI G wa 4 (upd fw9 (rs.getD i rD).2.2.2.length (nI wh))]) hw
              exact r_ret hQ (r_iret (qa, fm, fs9, js, zv, rr, pa ++ [oR ra [.int (nI ((rs.getD i rD).1)), .int (evI (rs.getD i rD).2.1), .int (nI ((rs.getD i rD).2.2.1)), .ref ka, .ref wa, .int (nI ((rs.getD i rD).2.2.2.length + 1))], aI G ka 4 (upd fk9 (rs.getD i rD).2.2.2.length (nI ms)), aI G wa 4 (upd fw9 (rs.getD i rD).2.2.2.length (nI wh))] ++ pb) hx hb hr hlk hw (⟨rfl, XR.empty hj7 (by rw [efs9]; exact hp), RP.send hi hs4 (by omega) (by omega) hrp hpa hr0 hr4 hr5⟩) (by omega) (by omega) d_X_sends_123)
          · skip
            refine lv_iload_n hx hb d_X_sends_29 rfl (lv_at hl 3 rfl) ?_
            refine r_if_ne (tgt := 50) hx hb (by omega) d_X_sends_30 (by decide) (fun c_30 => ?_) (fun c_30 => ?_)
            · skip
              exfalso; omega
            · skip
              refine lv_aload_n hx hb d_X_sends_33 rfl (lv_at hl 0 rfl) ?_
              refine g_X_15 hx hb hts hown hK hw 0 rfl rfl d_X_sends_34 ?_
              refine lv_iload_n hx hb d_X_sends_37 rfl (lv_at hl 1 rfl) ?_
              refine r_aald hx hb hK hw 17 rfl (by omega) (by omega) hr0 d_X_sends_38 ?_
              refine g_X_135 hx hb hts hown hK hw 21 rfl rfl d_X_sends_39 ?_
              refine lv_iconst (v := -1) hx hb d_X_sends_42 (by decide) ?_
              refine lv_icmp_eq (tgt := 50) hx hb d_X_sends_43 (by decide) (fun c_43 => ?_) (fun c_43 => ?_)
              · skip
                exact absurd c_43 (send_ev hwh (by omega) hrk)
              · skip
                refine lv_iconst (v := nI 1) hx hb d_X_sends_46 rfl ?_
                refine lv_goto (tgt := 51) hx hb d_X_sends_47 (by decide) ?_
                refine xS_v (rest := []) (As := [.int (nI 1)]) hx hb hml hown hts hK hA hw k_X_126 (c_X_right zl G) ([]) rfl rfl (fun _ => Nat.le_of_ble_eq_true rfl) rfl rfl hl.1 (Nat.le_of_ble_eq_true rfl) ⟨(by omega), (by omega)⟩ ⟨(by omega), (by omega)⟩ d_X_sends_51 (fun _ u H locs hp hw1 => ?_)
                refine W.cs (cells' := 0) (slots' := 0) rfl rfl ?_
                replace hw : WW G A zs ([oX (ad 0) [.int (nI n), .int (nI room), .int (nI Sx), .int (nI Kx), .ref (ad 17), .int (nI rs.length), .ref (ad 1), .ref (ad 2), .int (nI ps.length), .ref (qa 1), .ref (qa 2), .ref (qa 3), .ref (qa 4), .ref (qa 5), .ref (qa 6), .int (nI E.length), .int (nI S.length), .ref (qa 7), .int (boF ov E.length), .int (fuF ov), .int (nI md), .int (nI ag), .ref (ad 18), .ref (ad 10), .ref (ad 13), .ref (ad 16), zv 2], aZ G (ad 1) 64 fb, aI G (ad 2) 96 fn, aJ G (qa 1) (64 * 2 ^ j) fm, aI G (qa 2) (64 * 2 ^ j) (fs 2), aI G (qa 3) (64 * 2 ^ j) (fs 3), aI G (qa 4) (64 * 2 ^ j) (fs 4), aI G (qa 5) (64 * 2 ^ j) (fs 5), aI G (qa 6) (64 * 2 ^ j) (fs 6), aI G (qa 7) (2 ^ (8 + j)) (fs 7), oW (ad 10) [.ref (ad 11), .ref (ad 12), zv 0], aI G (ad 11) 4 (js 1), aI G (ad 12) 8 (js 2), oW (ad 13) [.ref (ad 14), .ref (ad 15), zv 1], aI G (ad 14) 4 (js 3), aI G (ad 15) 8 (js 4), aI G (ad 16) 4 (js 0), aR G (ad 17) 40 rr, oW (ad 18) [.ref (ad 19), .ref (ad 20), zv 3], aI G (ad 19) 4 (js 5), aI G (ad 20) 8 (js 6), oR ra [.int (nI ((rs.getD i rD).1)), .int (evI (rs.getD i rD).2.1), .int (nI ((rs.getD i rD).2.2.1)), .ref ka, .ref wa, .int (nI ((rs.getD i rD).2.2.2.length))], aI G ka 4 fk9, aI G wa 4 fw9] ++ (pa ++ pb)) H locs := hw1
                refine lv_aload_n hx hb d_X_sends_54 rfl (lv_at hl 0 rfl) ?_
                refine g_X_15 hx hb hts hown hK hw 0 rfl rfl d_X_sends_55 ?_
                refine lv_iload_n hx hb d_X_sends_58 rfl (lv_at hl 1 rfl) ?_
                refine r_aald hx hb hK hw 17 rfl (by omega) (by omega) hr0 d_X_sends_59 ?_
                refine lv_astore (lv' := [(4, .ref ra), (0, .ref (ad 0)), (1, .int (nI i)), (2, .int (nI ms)), (3, .int (nI wh))]) hx hb d_X_sends_60 hl (by decide) rfl (fun ls hl => ?_)
                refine lv_aload hx hb d_X_sends_62 (lv_at hl 0 rfl) ?_
                refine g_X_138 hx hb hts hown hK hw 21 rfl rfl d_X_sends_64 ?_
                refine lv_iconst (v := nI 4) hx hb d_X_sends_67 rfl ?_
                refine r_icmp_ge (tgt := 75) hx hb (by omega) (by omega) d_X_sends_68 (by decide) (fun c_68 => ?_) (fun c_68 => ?_)
                · skip
                  exfalso; omega
                · skip
                  refine lv_iconst (v := nI 1) hx hb d_X_sends_71 rfl ?_
                  refine lv_goto (tgt := 76) hx hb d_X_sends_72 (by decide) ?_
                  refine xS_v (rest := []) (As := [.int (nI 1)]) hx hb hml hown hts hK hA hw k_X_115 (c_X_allowed zl G) ([]) rfl rfl (fun _ => Nat.le_of_ble_eq_true rfl) rfl rfl hl.1 (Nat.le_of_ble_eq_true rfl) ⟨(by omega), (by omega)⟩ ⟨(by omega), (by omega)⟩ d_X_sends_76 (fun _ u H locs hp hw1 => ?_)
                  refine W.cs (cells' := 0) (slots' := 0) rfl rfl ?_
                  replace hw : WW G A zs ([oX (ad 0) [.int (nI n), .int (nI room), .int (nI Sx), .int (nI Kx), .ref (ad 17), .int (nI rs.length), .ref (ad 1), .ref (ad 2), .int (nI ps.length), .ref (qa 1), .ref (qa 2), .ref (qa 3), .ref (qa 4), .ref (qa 5), .ref (qa 6), .int (nI E.length), .int (nI S.length), .ref (qa 7), .int (boF ov E.length), .int (fuF ov), .int (nI md), .int (nI ag), .ref (ad 18), .ref (ad 10), .ref (ad 13), .ref (ad 16), zv 2], aZ G (ad 1) 64 fb, aI G (ad 2) 96 fn, aJ G (qa 1) (64 * 2 ^ j) fm, aI G (qa 2) (64 * 2 ^ j) (fs 2), aI G (qa 3) (64 * 2 ^ j) (fs 3), aI G (qa 4) (64 * 2 ^ j) (fs 4), aI G (qa 5) (64 * 2 ^ j) (fs 5), aI G (qa 6) (64 * 2 ^ j) (fs 6), aI G (qa 7) (2 ^ (8 + j)) (fs 7), oW (ad 10) [.ref (ad 11), .ref (ad 12), zv 0], aI G (ad 11) 4 (js 1), aI G (ad 12) 8 (js 2), oW (ad 13) [.ref (ad 14), .ref (ad 15), zv 1], aI G (ad 14) 4 (js 3), aI G (ad 15) 8 (js 4), aI G (ad 16) 4 (js 0), aR G (ad 17) 40 rr, oW (ad 18) [.ref (ad 19), .ref (ad 20), zv 3], aI G (ad 19) 4 (js 5), aI G (ad 20) 8 (js 6), oR ra [.int (nI ((rs.getD i rD).1)), .int (evI (rs.getD i rD).2.1), .int (nI ((rs.getD i rD).2.2.1)), .ref ka, .ref wa, .int (nI ((rs.getD i rD).2.2.2.length))], aI G ka 4 fk9, aI G wa 4 fw9] ++ (pa ++ pb)) H locs := hw1
                  refine lv_aload hx hb d_X_sends_79 (lv_at hl 0 rfl) ?_
                  refine g_X_139 hx hb hts hown hK hw 21 rfl rfl d_X_sends_81 ?_
                  refine lv_aload hx hb d_X_sends_84 (lv_at hl 0 rfl) ?_
                  refine g_X_138 hx hb hts hown hK hw 21 rfl rfl d_X_sends_86 ?_
                  refine lv_iload_n hx hb d_X_sends_89 rfl (lv_at hl 3 rfl) ?_
                  refine r_iast hx hb hK hw 22 rfl (by omega) (by omega) d_X_sends_90 (fun H locs hw1 => ?_)
                  replace hw : WW G A zs ([oX (ad 0) [.int (nI n), .int (nI room), .int (nI Sx), .int (nI Kx), .ref (ad 17), .int (nI rs.length), .ref (ad 1), .ref (ad 2), .int (nI ps.length), .ref (qa 1), .ref (qa 2), .ref (qa 3), .ref (qa 4), .ref (qa 5), .ref (qa 6), .int (nI E.length), .int (nI S.length), .ref (qa 7), .int (boF ov E.length), .int (fuF ov), .int (nI md), .int (nI ag), .ref (ad 18), .ref (ad 10), .ref (ad 13), .ref (ad 16), zv 2], aZ G (ad 1) 64 fb, aI G (ad 2) 96 fn, aJ G (qa 1) (64 * 2 ^ j) fm, aI G (qa 2) (64 * 2 ^ j) (fs 2), aI G (qa 3) (64 * 2 ^ j) (fs 3), aI G (qa 4) (64 * 2 ^ j) (fs 4), aI G (qa 5) (64 * 2 ^ j) (fs 5), aI G (qa 6) (64 * 2 ^ j) (fs 6), aI G (qa 7) (2 ^ (8 + j)) (fs 7), oW (ad 10) [.ref (ad 11), .ref (ad 12), zv 0], aI G (ad 11) 4 (js 1), aI G (ad 12) 8 (js 2), oW (ad 13) [.ref (ad 14), .ref (ad 15), zv 1], aI G (ad 14) 4 (js 3), aI G (ad 15) 8 (js 4), aI G (ad 16) 4 (js 0), aR G (ad 17) 40 rr, oW (ad 18) [.ref (ad 19), .ref (ad 20), zv 3], aI G (ad 19) 4 (js 5), aI G (ad 20) 8 (js 6), oR ra [.int (nI ((rs.getD i rD).1)), .int (evI (rs.getD i rD).2.1), .int (nI ((rs.getD i rD).2.2.1)), .ref ka, .ref wa, .int (nI ((rs.getD i rD).2.2.2.length))], aI G ka 4 (upd fk9 ((rs.getD i rD).2.2.2.length) (nI ms)), aI G wa 4 fw9] ++ (pa ++ pb)) H locs := hw1
                  refine lv_aload hx hb d_X_sends_91 (lv_at hl 0 rfl) ?_
                  refine g_X_141 hx hb hts hown hK hw 21 rfl rfl d_X_sends_93 ?_
                  refine lv_aload hx hb d_X_sends_96 (lv_at hl 0 rfl) ?_
                  refine g_X_138 hx hb hts hown hK hw 21 rfl rfl d_X_sends_98 ?_
                  refine lv_iload_n hx hb d_X_sends_101 rfl (lv_at hl 4 rfl) ?_
                  refine r_iast hx hb hK hw 23 rfl (by omega) (by omega) d_X_sends_102 (fun H locs hw1 => ?_)
                  replace hw : WW G A zs ([oX (ad 0) [.int (nI n), .int (nI room), .int (nI Sx), .int (nI Kx), .ref (ad 17), .int (nI rs.length), .ref (ad 1), .ref (ad 2), .int (nI ps.length), .ref (qa 1), .ref (qa 2), .ref (qa 3), .ref (qa 4), .ref (qa 5), .ref (qa 6), .int (nI E.length), .int (nI S.length), .ref (qa 7), .int (boF ov E.length), .int (fuF ov), .int (nI md), .int (nI ag), .ref (ad 18), .ref (ad 10), .ref (ad 13), .ref (ad 16), zv 2], aZ G (ad 1) 64 fb, aI G (ad 2) 96 fn, aJ G (qa 1) (64 * 2 ^ j) fm, aI G (qa 2) (64 * 2 ^ j) (fs 2), aI G (qa 3) (64 * 2 ^ j) (fs 3), aI G (qa 4) (64 * 2 ^ j) (fs 4), aI G (qa 5) (64 * 2 ^ j) (fs 5), aI G (qa 6) (64 * 2 ^ j) (fs 6), aI G (qa 7) (2 ^ (8 + j)) (fs 7), oW (ad 10) [.ref (ad 11), .ref (ad 12), zv 0], aI G (ad 11) 4 (js 1), aI G (ad 12) 8 (js 2), oW (ad 13) [.ref (ad 14), .ref (ad 15), zv 1], aI G (ad 14) 4 (js 3), aI G (ad 15) 8 (js 4), aI G (ad 16) 4 (js 0), aR G (ad 17) 40 rr, oW (ad 18) [.ref (ad 19), .ref (ad 20), zv 3], aI G (ad 19) 4 (js 5), aI G (ad 20) 8 (js 6), oR ra [.int (nI ((rs.getD i rD).1)), .int (evI (rs.getD i rD).2.1), .int (nI ((rs.getD i rD).2.2.1)), .ref ka, .ref wa, .int (nI ((rs.getD i rD).2.2.2.length))], aI G ka 4 (upd fk9 ((rs.getD i rD).2.2.2.length) (nI ms)), aI G wa 4 (upd fw9 ((rs.getD i rD).2.2.2.length) (nI wh))] ++ (pa ++ pb)) H locs := hw1
                  refine lv_aload hx hb d_X_sends_103 (lv_at hl 0 rfl) ?_
                  refine lv_dup hx hb d_X_sends_105 rfl ?_
                  refine g_X_138 hx hb hts hown hK hw 21 rfl rfl d_X_sends_106 ?_
                  refine lv_iconst (v := nI 1) hx hb d_X_sends_109 rfl ?_
                  refine r_iaddN hx hb d_X_sends_110 ?_
                  refine p_X_138 hx hb hts hown hK hw 21 rfl (Nat.le_of_ble_eq_true rfl) d_X_sends_111 (fun H locs hw1 => ?_)
                  replace hw : WW G A zs ([oX (ad 0) [.int (nI n), .int (nI room), .int (nI Sx), .int (nI Kx), .ref (ad 17), .int (nI rs.length), .ref (ad 1), .ref (ad 2), .int (nI ps.length), .ref (qa 1), .ref (qa 2), .ref (qa 3), .ref (qa 4), .ref (qa 5), .ref (qa 6), .int (nI E.length), .int (nI S.length), .ref (qa 7), .int (boF ov E.length), .int (fuF ov), .int (nI md), .int (nI ag), .ref (ad 18), .ref (ad 10), .ref (ad 13), .ref (ad 16), zv 2], aZ G (ad 1) 64 fb, aI G (ad 2) 96 fn, aJ G (qa 1) (64 * 2 ^ j) fm, aI G (qa 2) (64 * 2 ^ j) (fs 2), aI G (qa 3) (64 * 2 ^ j) (fs 3), aI G (qa 4) (64 * 2 ^ j) (fs 4), aI G (qa 5) (64 * 2 ^ j) (fs 5), aI G (qa 6) (64 * 2 ^ j) (fs 6), aI G (qa 7) (2 ^ (8 + j)) (fs 7), oW (ad 10) [.ref (ad 11), .ref (ad 12), zv 0], aI G (ad 11) 4 (js 1), aI G (ad 12) 8 (js 2), oW (ad 13) [.ref (ad 14), .ref (ad 15), zv 1], aI G (ad 14) 4 (js 3), aI G (ad 15) 8 (js 4), aI G (ad 16) 4 (js 0), aR G (ad 17) 40 rr, oW (ad 18) [.ref (ad 19), .ref (ad 20), zv 3], aI G (ad 19) 4 (js 5), aI G (ad 20) 8 (js 6), oR ra [.int (nI ((rs.getD i rD).1)), .int (evI (rs.getD i rD).2.1), .int (nI ((rs.getD i rD).2.2.1)), .ref ka, .ref wa, .int (nI (((rs.getD i rD).2.2.2.length) + 1))], aI G ka 4 (upd fk9 ((rs.getD i rD).2.2.2.length) (nI ms)), aI G wa 4 (upd fw9 ((rs.getD i rD).2.2.2.length) (nI wh))] ++ (pa ++ pb)) H locs := hw1
                  refine lv_aload_n hx hb d_X_sends_114 rfl (lv_at hl 1 rfl) ?_
                  refine xV_v (rest := []) (As := []) hx hb hml hown hts hK hA hw k_X_84 (c_X_forget zl G (ad 0) (qa 7) (2 ^ (8 + j)) (.int (nI n)) (.int (nI room)) (.int (nI Sx)) (.int (nI Kx)) (.ref (ad 17)) (.int (nI rs.length)) (.ref (ad 1)) (.ref (ad 2)) (.int (nI ps.length)) (.ref (qa 1)) (.ref (qa 2)) (.ref (qa 3)) (.ref (qa 4)) (.ref (qa 5)) (.ref (qa 6)) (.int (nI E.length)) (.int (nI S.length)) (.int (boF ov E.length)) (.int (fuF ov)) (.int (nI md)) (.int (nI ag)) (.ref (ad 18)) (.ref (ad 10)) (.ref (ad 13)) (.ref (ad 16)) (zv 2) (fs 7) (by omega)) ([0, 9]) rfl rfl (fun _ => Nat.le_of_ble_eq_true rfl) 0 rfl rfl rfl rfl hl.1 (Nat.le_of_ble_eq_true rfl) ⟨(by omega), (by omega)⟩ ⟨(by omega), (by omega)⟩ d_X_sends_115 (fun _ tb9 H locs hp hw1 => ?_)
                  obtain ⟨fs9, efs9⟩ : ∃ g : Nat → Nat → Int32, g = va_up fs 7 tb9 := ⟨_, rfl⟩
                  refine W.cs (cells' := 0) (slots' := 0) rfl rfl ?_
                  replace hw : WW G A zs ([oX (ad 0) [.int (nI n), .int (nI room), .int (nI Sx), .int (nI Kx), .ref (ad 17), .int (nI rs.length), .ref (ad 1), .ref (ad 2), .int (nI ps.length), .ref (qa 1), .ref (qa 2), .ref (qa 3), .ref (qa 4), .ref (qa 5), .ref (qa 6), .int (nI (([] : List Ent).length)), .int (nI 0), .ref (qa 7), .int (boF 0 ([] : List Ent).length), .int (fuF 0), .int (nI 0), .int (nI 0), .ref (ad 18), .ref (ad 10), .ref (ad 13), .ref (ad 16), zv 2], aZ G (ad 1) 64 fb, aI G (ad 2) 96 fn, aJ G (qa 1) (64 * 2 ^ j) fm, aI G (qa 2) (64 * 2 ^ j) (fs 2), aI G (qa 3) (64 * 2 ^ j) (fs 3), aI G (qa 4) (64 * 2 ^ j) (fs 4), aI G (qa 5) (64 * 2 ^ j) (fs 5), aI G (qa 6) (64 * 2 ^ j) (fs 6), aI G (qa 7) (2 ^ (8 + j)) tb9, oW (ad 10) [.ref (ad 11), .ref (ad 12), zv 0], aI G (ad 11) 4 (js 1), aI G (ad 12) 8 (js 2), oW (ad 13) [.ref (ad 14), .ref (ad 15), zv 1], aI G (ad 14) 4 (js 3), aI G (ad 15) 8 (js 4), aI G (ad 16) 4 (js 0), aR G (ad 17) 40 rr, oW (ad 18) [.ref (ad 19), .ref (ad 20), zv 3], aI G (ad 19) 4 (js 5), aI G (ad 20) 8 (js 6), oR ra [.int (nI ((rs.getD i rD).1)), .int (evI (rs.getD i rD).2.1), .int (nI ((rs.getD i rD).2.2.1)), .ref ka, .ref wa, .int (nI (((rs.getD i rD).2.2.2.length) + 1))], aI G ka 4 (upd fk9 ((rs.getD i rD).2.2.2.length) (nI ms)), aI G wa 4 (upd fw9 ((rs.getD i rD).2.2.2.length) (nI wh))] ++ (pa ++ pb)) H locs := hw1
                  replace hw : WW G A zs ([oX (ad 0) [.int (nI n), .int (nI room), .int (nI Sx), .int (nI Kx), .ref (ad 17), .int (nI ((rs.set i ((rs.getD i rD).1, (rs.getD i rD).2.1, (rs.getD i rD).2.2.1, (rs.getD i rD).2.2.2 ++ [(ms, wh)])).length)), .ref (ad 1), .ref (ad 2), .int (nI ps.length), .ref (qa 1), .ref (qa 2), .ref (qa 3), .ref (qa 4), .ref (qa 5), .ref (qa 6), .int (nI (([] : List Ent).length)), .int (nI 0), .ref (qa 7), .int (boF 0 ([] : List Ent).length), .int (fuF 0), .int (nI 0), .int (nI 0), .ref (ad 18), .ref (ad 10), .ref (ad 13), .ref (ad 16), zv 2], aZ G (ad 1) 64 fb, aI G (ad 2) 96 fn, aJ G (qa 1) (64 * 2 ^ j) fm, aI G (qa 2) (64 * 2 ^ j) (fs9 2), aI G (qa 3) (64 * 2 ^ j) (fs9 3), aI G (qa 4) (64 * 2 ^ j) (fs9 4), aI G (qa 5) (64 * 2 ^ j) (fs9 5), aI G (qa 6) (64 * 2 ^ j) (fs9 6), aI G (qa 7) (2 ^ (8 + j)) (fs9 7), oW (ad 10) [.ref (ad 11), .ref (ad 12), zv 0], aI G (ad 11) 4 (js 1), aI G (ad 12) 8 (js 2), oW (ad 13) [.ref (ad 14), .ref (ad 15), zv 1], aI G (ad 14) 4 (js 3), aI G (ad 15) 8 (js 4), aI G (ad 16) 4 (js 0), aR G (ad 17) 40 rr, oW (ad 18) [.ref (ad 19), .ref (ad 20), zv 3], aI G (ad 19) 4 (js 5), aI G (ad 20) 8 (js 6), oR ra [.int (nI ((rs.getD i rD).1)), .int (evI (rs.getD i rD).2.1), .int (nI ((rs.getD i rD).2.2.1)), .ref ka, .ref wa, .int (nI (((rs.getD i rD).2.2.2.length) + 1))], aI G ka 4 (upd fk9 ((rs.getD i rD).2.2.2.length) (nI ms)), aI G wa 4 (upd fw9 ((rs.getD i rD).2.2.2.length) (nI wh))] ++ (pa ++ pb)) H locs := by rw [efs9]; rw [List.length_set]; exact hw
                  refine lv_aload hx hb d_X_sends_118 (lv_at hl 0 rfl) ?_
                  refine g_X_138 hx hb hts hown hK hw 21 rfl rfl d_X_sends_120 ?_
                  replace hw := WW.inn (C := [oX (ad 0) [.int (nI n), .int (nI room), .int (nI Sx), .int (nI Kx), .ref (ad 17), .int (nI ((rs.set i ((rs.getD i rD).1, (rs.getD i rD).2.1, (rs.getD i rD).2.2.1, (rs.getD i rD).2.2.2 ++ [(ms, wh)])).length)), .ref (ad 1), .ref (ad 2), .int (nI ps.length), .ref (qa 1), .ref (qa 2), .ref (qa 3), .ref (qa 4), .ref (qa 5), .ref (qa 6), .int (nI (([] : List Ent).length)), .int (nI 0), .ref (qa 7), .int (boF 0 ([] : List Ent).length), .int (fuF 0), .int (nI 0), .int (nI 0), .ref (ad 18), .ref (ad 10), .ref (ad 13), .ref (ad 16), zv 2], aZ G (ad 1) 64 fb, aI G (ad 2) 96 fn, aJ G (qa 1) (64 * 2 ^ j) fm, aI G (qa 2) (64 * 2 ^ j) (fs9 2), aI G (qa 3) (64 * 2 ^ j) (fs9 3), aI G (qa 4) (64 * 2 ^ j) (fs9 4), aI G (qa 5) (64 * 2 ^ j) (fs9 5), aI G (qa 6) (64 * 2 ^ j) (fs9 6), aI G (qa 7) (2 ^ (8 + j)) (fs9 7), oW (ad 10) [.ref (ad 11), .ref (ad 12), zv 0], aI G (ad 11) 4 (js 1), aI G (ad 12) 8 (js 2), oW (ad 13) [.ref (ad 14), .ref (ad 15), zv 1], aI G (ad 14) 4 (js 3), aI G (ad 15) 8 (js 4), aI G (ad 16) 4 (js 0), aR G (ad 17) 40 rr, oW (ad 18) [.ref (ad 19), .ref (ad 20), zv 3], aI G (ad 19) 4 (js 5), aI G (ad 20) 8 (js 6)]) (ra := pa) (rb := pb) (D := [oR ra [.int (nI ((rs.getD i rD).1)), .int (evI (rs.getD i rD).2.1), .int (nI ((rs.getD i rD).2.2.1)), .ref ka, .ref wa, .int (nI ((rs.getD i rD).2.2.2.length + 1))], aI G ka 4 (upd fk9 (rs.getD i rD).2.2.2.length (nI ms)), aI G wa 4 (upd fw9 (rs.getD i rD).2.2.2.length (nI wh))]) hw
                  exact r_ret hQ (r_iret (qa, fm, fs9, js, zv, rr, pa ++ [oR ra [.int (nI ((rs.getD i rD).1)), .int (evI (rs.getD i rD).2.1), .int (nI ((rs.getD i rD).2.2.1)), .ref ka, .ref wa, .int (nI ((rs.getD i rD).2.2.2.length + 1))], aI G ka 4 (upd fk9 (rs.getD i rD).2.2.2.length (nI ms)), aI G wa 4 (upd fw9 (rs.getD i rD).2.2.2.length (nI wh))] ++ pb) hx hb hr hlk hw (⟨rfl, XR.empty hj7 (by rw [efs9]; exact hp), RP.send hi hs4 (by omega) (by omega) hrp hpa hr0 hr4 hr5⟩) (by omega) (by omega) d_X_sends_123)
set_option maxHeartbeats 4000000 in
set_option maxRecDepth 100000 in
theorem c_X_badT (zl : Launch) (G : GG) (ad qa : Nat → Nat) (fm : Nat → Int64) (fs js : Nat → Nat → Int32) (zv : Nat → Value) (fb fn : Nat → Int32) (rr : Nat → Option Nat) (rp : va_W) (n room Sx Kx j : Nat) (ps : List (List Nat)) (B : Nat → Bool) (rs : List Rl) (E : List Ent) (S : List Nat) (md ag ov a b : Nat) (hj7 : j ≤ 7) (hS8 : Sx ≤ 8) (ha : a < Sx) (hb9 : b < Sx) (hB : ∀ i, i < 64 → fb i = if B i = true then nI 1 else nI 0) (hwas : B (8 * a + b) = true) (hsym : B (8 * b + a) = true) : Ctr (S := (Nat → Nat) × (Nat → Int64) × (Nat → Nat → Int32) × (Nat → Nat → Int32) × (Nat → Value) × (Nat → Int32)) vI zl y_X_bad b_X_bad 4 (Option.some Jvm.ClassFile.FieldType.boolean) 1 0 0 G [.ref (ad 0), .int (nI a), .int (nI b)] ([oX (ad 0) [.int (nI n), .int (nI room), .int (nI Sx), .int (nI Kx), .ref (ad 17), .int (nI rs.length), .ref (ad 1), .ref (ad 2), .int (nI ps.length), .ref (qa 1), .ref (qa 2), .ref (qa 3), .ref (qa 4), .ref (qa 5), .ref (qa 6), .int (nI E.length), .int (nI S.length), .ref (qa 7), .int (boF ov E.length), .int (fuF ov), .int (nI md), .int (nI ag), .ref (ad 18), .ref (ad 10), .ref (ad 13), .ref (ad 16), zv 2], aZ G (ad 1) 64 fb, aI G (ad 2) 96 fn, aJ G (qa 1) (64 * 2 ^ j) fm, aI G (qa 2) (64 * 2 ^ j) (fs 2), aI G (qa 3) (64 * 2 ^ j) (fs 3), aI G (qa 4) (64 * 2 ^ j) (fs 4), aI G (qa 5) (64 * 2 ^ j) (fs 5), aI G (qa 6) (64 * 2 ^ j) (fs 6), aI G (qa 7) (2 ^ (8 + j)) (fs 7), oW (ad 10) [.ref (ad 11), .ref (ad 12), zv 0], aI G (ad 11) 4 (js 1), aI G (ad 12) 8 (js 2), oW (ad 13) [.ref (ad 14), .ref (ad 15), zv 1], aI G (ad 14) 4 (js 3), aI G (ad 15) 8 (js 4), aI G (ad 16) 4 (js 0), aR G (ad 17) 40 rr, oW (ad 18) [.ref (ad 19), .ref (ad 20), zv 3], aI G (ad 19) 4 (js 5), aI G (ad 20) 8 (js 6)] ++ rp) (fun r u => r = nI 0 ∧ ∀ i, i < 64 → u.2.2.2.2.2 i = if B i = true then nI 1 else nI 0) (fun u => [oX (ad 0) [.int (nI n), .int (nI room), .int (nI Sx), .int (nI Kx), .ref (ad 17), .int (nI rs.length), .ref (ad 1), .ref (ad 2), .int (nI ps.length), .ref (qa 1), .ref (qa 2), .ref (qa 3), .ref (qa 4), .ref (qa 5), .ref (qa 6), .int (nI E.length), .int (nI S.length), .ref (qa 7), .int (boF ov E.length), .int (fuF ov), .int (nI md), .int (nI ag), .ref (ad 18), .ref (ad 10), .ref (ad 13), .ref (ad 16), zv 2], aZ G (ad 1) 64 u.2.2.2.2.2, aI G (ad 2) 96 fn, aJ G (qa 1) (64 * 2 ^ j) fm, aI G (qa 2) (64 * 2 ^ j) (fs 2), aI G (qa 3) (64 * 2 ^ j) (fs 3), aI G (qa 4) (64 * 2 ^ j) (fs 4), aI G (qa 5) (64 * 2 ^ j) (fs 5), aI G (qa 6) (64 * 2 ^ j) (fs 6), aI G (qa 7) (2 ^ (8 + j)) (fs 7), oW (ad 10) [.ref (ad 11), .ref (ad 12), zv 0], aI G (ad 11) 4 (js 1), aI G (ad 12) 8 (js 2), oW (ad 13) [.ref (ad 14), .ref (ad 15), zv 1], aI G (ad 14) 4 (js 3), aI G (ad 15) 8 (js 4), aI G (ad 16) 4 (js 0), aR G (ad 17) 40 rr, oW (ad 18) [.ref (ad 19), .ref (ad 20), zv 3], aI G (ad 19) 4 (js 5), aI G (ad 20) 8 (js 6)] ++ rp) := by
  refine Ctr.start (by decide) (Nat.le_of_ble_eq_true rfl) ?_
  intro zp ze zs zm below meth zc A ls C0 hin hK hA hl hw
  obtain ⟨hx, hb, hr, hlk, hml, hown, hts⟩ := C0
  obtain ⟨R, hRR⟩ : ∃ R : Room, R = rmL 1 0 0 := ⟨_, rfl⟩
  have hRf : R.frames = 1 := by rw [hRR]
  have hRl : R.locals = 64 * 1 := by rw [hRR]
  have hRc : R.cells = 0 := by rw [hRR]
  have hRs : R.slots = 0 := by rw [hRR]
  rw [← hRR]; clear hRR
  generalize hQ : MQ below _ _ zs _ _ A = Q
  generalize hAr : List.toArray _ = args at hts hQ ⊢
  replace hl : lv_has ls 4 [(0, .ref (ad 0)), (1, .int (nI a)), (2, .int (nI b))] := hl
  obtain ⟨H, eH⟩ : ∃ H : Heap, H = zs.heap := ⟨_, rfl⟩
  obtain ⟨locs, eL⟩ : ∃ l0 : List Loc, l0 = [] := ⟨_, rfl⟩
  rw [← eH, ← eL] at hw ⊢; clear eH eL
  have hpw := pow_mono hj7
  have hpe : 2 ^ (8 + j) = 256 * 2 ^ j := by rw [Nat.pow_add]
  refine lv_aload_n hx hb d_X_bad_0 rfl (lv_at hl 0 rfl) ?_
  refine lv_iload_n hx hb d_X_bad_1 rfl (lv_at hl 1 rfl) ?_
  refine xV_i (rest := []) (As := [.int (nI a)]) hx hb hml hown hts hK hA hw k_X_122 (c_X_isState zl G (ad 0) Sx (.int (nI n)) (.int (nI room)) (.int (nI Kx)) (.ref (ad 17)) (.int (nI rs.length)) (.ref (ad 1)) (.ref (ad 2)) (.int (nI ps.length)) (.ref (qa 1)) (.ref (qa 2)) (.ref (qa 3)) (.ref (qa 4)) (.ref (qa 5)) (.ref (qa 6)) (.int (nI E.length)) (.int (nI S.length)) (.ref (qa 7)) (.int (boF ov E.length)) (.int (fuF ov)) (.int (nI md)) (.int (nI ag)) (.ref (ad 18)) (.ref (ad 10)) (.ref (ad 13)) (.ref (ad 16)) (zv 2) (nI a)) ([0]) rfl rfl (fun _ => Nat.le_of_ble_eq_true rfl) 0 rfl rfl rfl rfl hl.1 (Nat.le_of_ble_eq_true rfl) ⟨(by omega), (by omega)⟩ ⟨(by omega), (by omega)⟩ d_X_bad_2 (fun r u H locs hp hw1 => ?_)
  rw [if_pos ⟨nI_pos' (by omega), nI_lt (by omega) (by omega)⟩] at hp
  subst hp
  refine W.cs (cells' := 0) (slots' := 0) rfl rfl ?_
  replace hw : WW G A zs ([oX (ad 0) [.int (nI n), .int (nI room), .int (nI Sx), .int (nI Kx), .ref (ad 17), .int (nI rs.length), .ref (ad 1), .ref (ad 2), .int (nI ps.length), .ref (qa 1), .ref (qa 2), .ref (qa 3), .ref (qa 4), .ref (qa 5), .ref (qa 6), .int (nI E.length), .int (nI S.length), .ref (qa 7), .int (boF ov E.length), .int (fuF ov), .int (nI md), .int (nI ag), .ref (ad 18), .ref (ad 10), .ref (ad 13), .ref (ad 16), zv 2], aZ G (ad 1) 64 fb, aI G (ad 2) 96 fn, aJ G (qa 1) (64 * 2 ^ j) fm, aI G (qa 2) (64 * 2 ^ j) (fs 2), aI G (qa 3) (64 * 2 ^ j) (fs 3), aI G (qa 4) (64 * 2 ^ j) (fs 4), aI G (qa 5) (64 * 2 ^ j) (fs 5), aI G (qa 6) (64 * 2 ^ j) (fs 6), aI G (qa 7) (2 ^ (8 + j)) (fs 7), oW (ad 10) [.ref (ad 11), .ref (ad 12), zv 0], aI G (ad 11) 4 (js 1), aI G (ad 12) 8 (js 2), oW (ad 13) [.ref (ad 14), .ref (ad 15), zv 1], aI G (ad 14) 4 (js 3), aI G (ad 15) 8 (js 4), aI G (ad 16) 4 (js 0), aR G (ad 17) 40 rr, oW (ad 18) [.ref (ad 19), .ref (ad 20), zv 3], aI G (ad 19) 4 (js 5), aI G (ad 20) 8 (js 6)] ++ rp) H locs := hw1
  refine r_if_eq (tgt := 20) hx hb (by omega) d_X_bad_5 (by decide) (fun c_5 => ?_) (fun c_5 => ?_)
  · skip
    exact absurd c_5 (by decide)
  · skip
    refine lv_aload_n hx hb d_X_bad_8 rfl (lv_at hl 0 rfl) ?_
    refine lv_iload_n hx hb d_X_bad_9 rfl (lv_at hl 2 rfl) ?_
    refine xV_i (rest := []) (As := [.int (nI b)]) hx hb hml hown hts hK hA hw k_X_122 (c_X_isState zl G (ad 0) Sx (.int (nI n)) (.int (nI room)) (.int (nI Kx)) (.ref (ad 17)) (.int (nI rs.length)) (.ref (ad 1)) (.ref (ad 2)) (.int (nI ps.length)) (.ref (qa 1)) (.ref (qa 2)) (.ref (qa 3)) (.ref (qa 4)) (.ref (qa 5)) (.ref (qa 6)) (.int (nI E.length)) (.int (nI S.length)) (.ref (qa 7)) (.int (boF ov E.length)) (.int (fuF ov)) (.int (nI md)) (.int (nI ag)) (.ref (ad 18)) (.ref (ad 10)) (.ref (ad 13)) (.ref (ad 16)) (zv 2) (nI b)) ([0]) rfl rfl (fun _ => Nat.le_of_ble_eq_true rfl) 0 rfl rfl rfl rfl hl.1 (Nat.le_of_ble_eq_true rfl) ⟨(by omega), (by omega)⟩ ⟨(by omega), (by omega)⟩ d_X_bad_10 (fun r u H locs hp hw1 => ?_)
    rw [if_pos ⟨nI_pos' (by omega), nI_lt (by omega) (by omega)⟩] at hp
    subst hp
    refine W.cs (cells' := 0) (slots' := 0) rfl rfl ?_
    replace hw : WW G A zs ([oX (ad 0) [.int (nI n), .int (nI room), .int (nI Sx), .int (nI Kx), .ref (ad 17), .int (nI rs.length), .ref (ad 1), .ref (ad 2), .int (nI ps.length), .ref (qa 1), .ref (qa 2), .ref (qa 3), .ref (qa 4), .ref (qa 5), .ref (qa 6), .int (nI E.length), .int (nI S.length), .ref (qa 7), .int (boF ov E.length), .int (fuF ov), .int (nI md), .int (nI ag), .ref (ad 18), .ref (ad 10), .ref (ad 13), .ref (ad 16), zv 2], aZ G (ad 1) 64 fb, aI G (ad 2) 96 fn, aJ G (qa 1) (64 * 2 ^ j) fm, aI G (qa 2) (64 * 2 ^ j) (fs 2), aI G (qa 3) (64 * 2 ^ j) (fs 3), aI G (qa 4) (64 * 2 ^ j) (fs 4), aI G (qa 5) (64 * 2 ^ j) (fs 5), aI G (qa 6) (64 * 2 ^ j) (fs 6), aI G (qa 7) (2 ^ (8 + j)) (fs 7), oW (ad 10) [.ref (ad 11), .ref (ad 12), zv 0], aI G (ad 11) 4 (js 1), aI G (ad 12) 8 (js 2), oW (ad 13) [.ref (ad 14), .ref (ad 15), zv 1], aI G (ad 14) 4 (js 3), aI G (ad 15) 8 (js 4), aI G (ad 16) 4 (js 0), aR G (ad 17) 40 rr, oW (ad 18) [.ref (ad 19), .ref (ad 20), zv 3], aI G (ad 19) 4 (js 5), aI G (ad 20) 8 (js 6)] ++ rp) H locs := hw1
    refine r_if_eq (tgt := 20) hx hb (by omega) d_X_bad_13 (by decide) (fun c_13 => ?_) (fun c_13 => ?_)
    · skip
      exact absurd c_13 (by decide)
    · skip
      refine lv_iconst (v := nI 1) hx hb d_X_bad_16 rfl ?_
      refine lv_goto (tgt := 21) hx hb d_X_bad_17 (by decide) ?_
      refine xS_v (rest := []) (As := [.int (nI 1)]) hx hb hml hown hts hK hA hw k_X_126 (c_X_right zl G) ([]) rfl rfl (fun _ => Nat.le_of_ble_eq_true rfl) rfl rfl hl.1 (Nat.le_of_ble_eq_true rfl) ⟨(by omega), (by omega)⟩ ⟨(by omega), (by omega)⟩ d_X_bad_21 (fun _ u H locs hp hw1 => ?_)
      refine W.cs (cells' := 0) (slots' := 0) rfl rfl ?_
      replace hw : WW G A zs ([oX (ad 0) [.int (nI n), .int (nI room), .int (nI Sx), .int (nI Kx), .ref (ad 17), .int (nI rs.length), .ref (ad 1), .ref (ad 2), .int (nI ps.length), .ref (qa 1), .ref (qa 2), .ref (qa 3), .ref (qa 4), .ref (qa 5), .ref (qa 6), .int (nI E.length), .int (nI S.length), .ref (qa 7), .int (boF ov E.length), .int (fuF ov), .int (nI md), .int (nI ag), .ref (ad 18), .ref (ad 10), .ref (ad 13), .ref (ad 16), zv 2], aZ G (ad 1) 64 fb, aI G (ad 2) 96 fn, aJ G (qa 1) (64 * 2 ^ j) fm, aI G (qa 2) (64 * 2 ^ j) (fs 2), aI G (qa 3) (64 * 2 ^ j) (fs 3), aI G (qa 4) (64 * 2 ^ j) (fs 4), aI G (qa 5) (64 * 2 ^ j) (fs 5), aI G (qa 6) (64 * 2 ^ j) (fs 6), aI G (qa 7) (2 ^ (8 + j)) (fs 7), oW (ad 10) [.ref (ad 11), .ref (ad 12), zv 0], aI G (ad 11) 4 (js 1), aI G (ad 12) 8 (js 2), oW (ad 13) [.ref (ad 14), .ref (ad 15), zv 1], aI G (ad 14) 4 (js 3), aI G (ad 15) 8 (js 4), aI G (ad 16) 4 (js 0), aR G (ad 17) 40 rr, oW (ad 18) [.ref (ad 19), .ref (ad 20), zv 3], aI G (ad 19) 4 (js 5), aI G (ad 20) 8 (js 6)] ++ rp) H locs := hw1
      refine lv_aload_n hx hb d_X_bad_24 rfl (lv_at hl 0 rfl) ?_
      refine g_X_19 hx hb hts hown hK hw 0 rfl rfl d_X_bad_25 ?_
      refine lv_bipush (v := nI 8) hx hb d_X_bad_28 (by decide) ?_
      refine lv_iload_n hx hb d_X_bad_30 rfl (lv_at hl 1 rfl) ?_
      refine r_imulN hx hb d_X_bad_31 ?_
      refine lv_iload_n hx hb d_X_bad_32 rfl (lv_at hl 2 rfl) ?_
      refine r_iaddN hx hb d_X_bad_33 ?_
      refine r_zald hx hb hK hw 1 rfl (by omega) (by omega) d_X_bad_34 ?_
      refine r_eq (show fb ((8 * a) + b) = nI 1 from by rw [hB _ (by omega), hwas]; rfl) ?_
      refine lv_istore_n (lv' := [(3, .int (nI 1)), (0, .ref (ad 0)), (1, .int (nI a)), (2, .int (nI b))]) hx hb d_X_bad_35 rfl hl (by decide) rfl (fun ls hl => ?_)
      refine lv_aload_n hx hb d_X_bad_36 rfl (lv_at hl 1 rfl) ?_
      refine g_X_19 hx hb hts hown hK hw 0 rfl rfl d_X_bad_37 ?_
      refine lv_bipush (v := nI 8) hx hb d_X_bad_40 (by decide) ?_
      refine lv_iload_n hx hb d_X_bad_42 rfl (lv_at hl 2 rfl) ?_
      refine r_imulN hx hb d_X_bad_43 ?_
      refine lv_iload_n hx hb d_X_bad_44 rfl (lv_at hl 3 rfl) ?_
      refine r_iaddN hx hb d_X_bad_45 ?_
      refine lv_iconst (v := nI 1) hx hb d_X_bad_46 rfl ?_
      refine r_zast hx hb hK hw 1 rfl (by omega) (by omega) (y := nI 1) rfl d_X_bad_47 (fun H locs hw1 => ?_)
      replace hw : WW G A zs ([oX (ad 0) [.int (nI n), .int (nI room), .int (nI Sx), .int (nI Kx), .ref (ad 17), .int (nI rs.length), .ref (ad 1), .ref (ad 2), .int (nI ps.length), .ref (qa 1), .ref (qa 2), .ref (qa 3), .ref (qa 4), .ref (qa 5), .ref (qa 6), .int (nI E.length), .int (nI S.length), .ref (qa 7), .int (boF ov E.length), .int (fuF ov), .int (nI md), .int (nI ag), .ref (ad 18), .ref (ad 10), .ref (ad 13), .ref (ad 16), zv 2], aZ G (ad 1) 64 (upd fb ((8 * a) + b) (nI 1)), aI G (ad 2) 96 fn, aJ G (qa 1) (64 * 2 ^ j) fm, aI G (qa 2) (64 * 2 ^ j) (fs 2), aI G (qa 3) (64 * 2 ^ j) (fs 3), aI G (qa 4) (64 * 2 ^ j) (fs 4), aI G (qa 5) (64 * 2 ^ j) (fs 5), aI G (qa 6) (64 * 2 ^ j) (fs 6), aI G (qa 7) (2 ^ (8 + j)) (fs 7), oW (ad 10) [.ref (ad 11), .ref (ad 12), zv 0], aI G (ad 11) 4 (js 1), aI G (ad 12) 8 (js 2), oW (ad 13) [.ref (ad 14), .ref (ad 15), zv 1], aI G (ad 14) 4 (js 3), aI G (ad 15) 8 (js 4), aI G (ad 16) 4 (js 0), aR G (ad 17) 40 rr, oW (ad 18) [.ref (ad 19), .ref (ad 20), zv 3], aI G (ad 19) 4 (js 5), aI G (ad 20) 8 (js 6)] ++ rp) H locs := hw1
      refine lv_aload_n hx hb d_X_bad_48 rfl (lv_at hl 1 rfl) ?_
      refine g_X_19 hx hb hts hown hK hw 0 rfl rfl d_X_bad_49 ?_
      refine lv_bipush (v := nI 8) hx hb d_X_bad_52 (by decide) ?_
      refine lv_iload_n hx hb d_X_bad_54 rfl (lv_at hl 3 rfl) ?_
      refine r_imulN hx hb d_X_bad_55 ?_
      refine lv_iload_n hx hb d_X_bad_56 rfl (lv_at hl 2 rfl) ?_
      refine r_iaddN hx hb d_X_bad_57 ?_
      refine lv_iconst (v := nI 1) hx hb d_X_bad_58 rfl ?_
      refine r_zast hx hb hK hw 1 rfl (by omega) (by omega) (y := nI 1) rfl d_X_bad_59 (fun H locs hw1 => ?_)
      replace hw : WW G A zs ([oX (ad 0) [.int (nI n), .int (nI room), .int (nI Sx), .int (nI Kx), .ref (ad 17), .int (nI rs.length), .ref (ad 1), .ref (ad 2), .int (nI ps.length), .ref (qa 1), .ref (qa 2), .ref (qa 3), .ref (qa 4), .ref (qa 5), .ref (qa 6), .int (nI E.length), .int (nI S.length), .ref (qa 7), .int (boF ov E.length), .int (fuF ov), .int (nI md), .int (nI ag), .ref (ad 18), .ref (ad 10), .ref (ad 13), .ref (ad 16), zv 2], aZ G (ad 1) 64 (upd (upd fb ((8 * a) + b) (nI 1)) ((8 * b) + a) (nI 1)), aI G (ad 2) 96 fn, aJ G (qa 1) (64 * 2 ^ j) fm, aI G (qa 2) (64 * 2 ^ j) (fs 2), aI G (qa 3) (64 * 2 ^ j) (fs 3), aI G (qa 4) (64 * 2 ^ j) (fs 4), aI G (qa 5) (64 * 2 ^ j) (fs 5), aI G (qa 6) (64 * 2 ^ j) (fs 6), aI G (qa 7) (2 ^ (8 + j)) (fs 7), oW (ad 10) [.ref (ad 11), .ref (ad 12), zv 0], aI G (ad 11) 4 (js 1), aI G (ad 12) 8 (js 2), oW (ad 13) [.ref (ad 14), .ref (ad 15), zv 1], aI G (ad 14) 4 (js 3), aI G (ad 15) 8 (js 4), aI G (ad 16) 4 (js 0), aR G (ad 17) 40 rr, oW (ad 18) [.ref (ad 19), .ref (ad 20), zv 3], aI G (ad 19) 4 (js 5), aI G (ad 20) 8 (js 6)] ++ rp) H locs := hw1
      refine lv_iload_n hx hb d_X_bad_60 rfl (lv_at hl 0 rfl) ?_
      refine r_if_ne (tgt := 68) hx hb (by omega) d_X_bad_61 (by decide) (fun c_61 => ?_) (fun c_61 => ?_)
      · skip
        refine lv_iload_n hx hb d_X_bad_68 rfl (lv_at hl 0 rfl) ?_
        refine r_if_ne (tgt := 76) hx hb (by omega) d_X_bad_69 (by decide) (fun c_69 => ?_) (fun c_69 => ?_)
        · skip
          refine lv_iconst (v := nI 0) hx hb d_X_bad_76 rfl ?_
          exact r_ret hQ (r_zret (qa, fm, fs, js, zv, upd (upd fb (8 * a + b) (nI 1)) (8 * b + a) (nI 1)) hx hb hr hlk hw (⟨rfl, bad_t hB hwas hsym (by omega) (by omega)⟩) (by decide) (by omega) (by omega) d_X_bad_77)
        · skip
          exfalso; omega
      · skip
        exfalso; omega
set_option maxHeartbeats 4000000 in
set_option maxRecDepth 100000 in
theorem c_X_badF (zl : Launch) (G : GG) (ad qa : Nat → Nat) (fm : Nat → Int64) (fs js : Nat → Nat → Int32) (zv : Nat → Value) (fb fn : Nat → Int32) (rr : Nat → Option Nat) (rp : va_W) (n room Sx Kx j : Nat) (ps : List (List Nat)) (B : Nat → Bool) (rs : List Rl) (E : List Ent) (S : List Nat) (md ag ov a b : Nat) (hj7 : j ≤ 7) (hS8 : Sx ≤ 8) (ha : a < Sx) (hb9 : b < Sx) (hB : ∀ i, i < 64 → fb i = if B i = true then nI 1 else nI 0) (hwas : B (8 * a + b) = false) : Ctr (S := (Nat → Nat) × (Nat → Int64) × (Nat → Nat → Int32) × (Nat → Nat → Int32) × (Nat → Value) × (Nat → Int32)) vI zl y_X_bad b_X_bad 4 (Option.some Jvm.ClassFile.FieldType.boolean) 1 0 0 G [.ref (ad 0), .int (nI a), .int (nI b)] ([oX (ad 0) [.int (nI n), .int (nI room), .int (nI Sx), .int (nI Kx), .ref (ad 17), .int (nI rs.length), .ref (ad 1), .ref (ad 2), .int (nI ps.length), .ref (qa 1), .ref (qa 2), .ref (qa 3), .ref (qa 4), .ref (qa 5), .ref (qa 6), .int (nI E.length), .int (nI S.length), .ref (qa 7), .int (boF ov E.length), .int (fuF ov), .int (nI md), .int (nI ag), .ref (ad 18), .ref (ad 10), .ref (ad 13), .ref (ad 16), zv 2], aZ G (ad 1) 64 fb, aI G (ad 2) 96 fn, aJ G (qa 1) (64 * 2 ^ j) fm, aI G (qa 2) (64 * 2 ^ j) (fs 2), aI G (qa 3) (64 * 2 ^ j) (fs 3), aI G (qa 4) (64 * 2 ^ j) (fs 4), aI G (qa 5) (64 * 2 ^ j) (fs 5), aI G (qa 6) (64 * 2 ^ j) (fs 6), aI G (qa 7) (2 ^ (8 + j)) (fs 7), oW (ad 10) [.ref (ad 11), .ref (ad 12), zv 0], aI G (ad 11) 4 (js 1), aI G (ad 12) 8 (js 2), oW (ad 13) [.ref (ad 14), .ref (ad 15), zv 1], aI G (ad 14) 4 (js 3), aI G (ad 15) 8 (js 4), aI G (ad 16) 4 (js 0), aR G (ad 17) 40 rr, oW (ad 18) [.ref (ad 19), .ref (ad 20), zv 3], aI G (ad 19) 4 (js 5), aI G (ad 20) 8 (js 6)] ++ rp) (fun r u => r = nI 1 ∧ XR ([] : List Ent) j u.2.1 u.2.2.1 ∧ ∀ i, i < 64 → u.2.2.2.2.2 i = if upB B (8 * a + b) (8 * b + a) i = true then nI 1 else nI 0) (fun u => [oX (ad 0) [.int (nI n), .int (nI room), .int (nI Sx), .int (nI Kx), .ref (ad 17), .int (nI rs.length), .ref (ad 1), .ref (ad 2), .int (nI ps.length), .ref (u.1 1), .ref (u.1 2), .ref (u.1 3), .ref (u.1 4), .ref (u.1 5), .ref (u.1 6), .int (nI (([] : List Ent).length)), .int (nI 0), .ref (u.1 7), .int (boF 0 ([] : List Ent).length), .int (fuF 0), .int (nI 0), .int (nI 0), .ref (ad 18), .ref (ad 10), .ref (ad 13), .ref (ad 16), u.2.2.2.2.1 2], aZ G (ad 1) 64 u.2.2.2.2.2, aI G (ad 2) 96 fn, aJ G (u.1 1) (64 * 2 ^ j) u.2.1, aI G (u.1 2) (64 * 2 ^ j) (u.2.2.1 2), aI G (u.1 3) (64 * 2 ^ j) (u.2.2.1 3), aI G (u.1 4) (64 * 2 ^ j) (u.2.2.1 4), aI G (u.1 5) (64 * 2 ^ j) (u.2.2.1 5), aI G (u.1 6) (64 * 2 ^ j) (u.2.2.1 6), aI G (u.1 7) (2 ^ (8 + j)) (u.2.2.1 7), oW (ad 10) [.ref (ad 11), .ref (ad 12), u.2.2.2.2.1 0], aI G (ad 11) 4 (u.2.2.2.1 1), aI G (ad 12) 8 (u.2.2.2.1 2), oW (ad 13) [.ref (ad 14), .ref (ad 15), u.2.2.2.2.1 1], aI G (ad 14) 4 (u.2.2.2.1 3), aI G (ad 15) 8 (u.2.2.2.1 4), aI G (ad 16) 4 (u.2.2.2.1 0), aR G (ad 17) 40 rr, oW (ad 18) [.ref (ad 19), .ref (ad 20), u.2.2.2.2.1 3], aI G (ad 19) 4 (u.2.2.2.1 5), aI G (ad 20) 8 (u.2.2.2.1 6)] ++ rp) := by
  refine Ctr.start (by decide) (Nat.le_of_ble_eq_true rfl) ?_
  intro zp ze zs zm below meth zc A ls C0 hin hK hA hl hw
  obtain ⟨hx, hb, hr, hlk, hml, hown, hts⟩ := C0
  obtain ⟨R, hRR⟩ : ∃ R : Room, R = rmL 1 0 0 := ⟨_, rfl⟩
  have hRf : R.frames = 1 := by rw [hRR]
  have hRl : R.locals = 64 * 1 := by rw [hRR]
  have hRc : R.cells = 0 := by rw [hRR]
  have hRs : R.slots = 0 := by rw [hRR]
  rw [← hRR]; clear hRR
  generalize hQ : MQ below _ _ zs _ _ A = Q
  generalize hAr : List.toArray _ = args at hts hQ ⊢
  replace hl : lv_has ls 4 [(0, .ref (ad 0)), (1, .int (nI a)), (2, .int (nI b))] := hl
  obtain ⟨H, eH⟩ : ∃ H : Heap, H = zs.heap := ⟨_, rfl⟩
  obtain ⟨locs, eL⟩ : ∃ l0 : List Loc, l0 = [] := ⟨_, rfl⟩
  rw [← eH, ← eL] at hw ⊢; clear eH eL
  have hpw := pow_mono hj7
  have hpe : 2 ^ (8 + j) = 256 * 2 ^ j := by rw [Nat.pow_add]
  refine lv_aload_n hx hb d_X_bad_0 rfl (lv_at hl 0 rfl) ?_
  refine lv_iload_n hx hb d_X_bad_1 rfl (lv_at hl 1 rfl) ?_
  refine xV_i (rest := []) (As := [.int (nI a)]) hx hb hml hown hts hK hA hw k_X_122 (c_X_isState zl G (ad 0) Sx (.int (nI n)) (.int (nI room)) (.int (nI Kx)) (.ref (ad 17)) (.int (nI rs.length)) (.ref (ad 1)) (.ref (ad 2)) (.int (nI ps.length)) (.ref (qa 1)) (.ref (qa 2)) (.ref (qa 3)) (.ref (qa 4)) (.ref (qa 5)) (.ref (qa 6)) (.int (nI E.length)) (.int (nI S.length)) (.ref (qa 7)) (.int (boF ov E.length)) (.int (fuF ov)) (.int (nI md)) (.int (nI ag)) (.ref (ad 18)) (.ref (ad 10)) (.ref (ad 13)) (.ref (ad 16)) (zv 2) (nI a)) ([0]) rfl rfl (fun _ => Nat.le_of_ble_eq_true rfl) 0 rfl rfl rfl rfl hl.1 (Nat.le_of_ble_eq_true rfl) ⟨(by omega), (by omega)⟩ ⟨(by omega), (by omega)⟩ d_X_bad_2 (fun r u H locs hp hw1 => ?_)
  rw [if_pos ⟨nI_pos' (by omega), nI_lt (by omega) (by omega)⟩] at hp
  subst hp
  refine W.cs (cells' := 0) (slots' := 0) rfl rfl ?_
  replace hw : WW G A zs ([oX (ad 0) [.int (nI n), .int (nI room), .int (nI Sx), .int (nI Kx), .ref (ad 17), .int (nI rs.length), .ref (ad 1), .ref (ad 2), .int (nI ps.length), .ref (qa 1), .ref (qa 2), .ref (qa 3), .ref (qa 4), .ref (qa 5), .ref (qa 6), .int (nI E.length), .int (nI S.length), .ref (qa 7), .int (boF ov E.length), .int (fuF ov), .int (nI md), .int (nI ag), .ref (ad 18), .ref (ad 10), .ref (ad 13), .ref (ad 16), zv 2], aZ G (ad 1) 64 fb, aI G (ad 2) 96 fn, aJ G (qa 1) (64 * 2 ^ j) fm, aI G (qa 2) (64 * 2 ^ j) (fs 2), aI G (qa 3) (64 * 2 ^ j) (fs 3), aI G (qa 4) (64 * 2 ^ j) (fs 4), aI G (qa 5) (64 * 2 ^ j) (fs 5), aI G (qa 6) (64 * 2 ^ j) (fs 6), aI G (qa 7) (2 ^ (8 + j)) (fs 7), oW (ad 10) [.ref (ad 11), .ref (ad 12), zv 0], aI G (ad 11) 4 (js 1), aI G (ad 12) 8 (js 2), oW (ad 13) [.ref (ad 14), .ref (ad 15), zv 1], aI G (ad 14) 4 (js 3), aI G (ad 15) 8 (js 4), aI G (ad 16) 4 (js 0), aR G (ad 17) 40 rr, oW (ad 18) [.ref (ad 19), .ref (ad 20), zv 3], aI G (ad 19) 4 (js 5), aI G (ad 20) 8 (js 6)] ++ rp) H locs := hw1
  refine r_if_eq (tgt := 20) hx hb (by omega) d_X_bad_5 (by decide) (fun c_5 => ?_) (fun c_5 => ?_)
  · skip
    exact absurd c_5 (by decide)
  · skip
    refine lv_aload_n hx hb d_X_bad_8 rfl (lv_at hl 0 rfl) ?_
    refine lv_iload_n hx hb d_X_bad_9 rfl (lv_at hl 2 rfl) ?_
    refine xV_i (rest := []) (As := [.int (nI b)]) hx hb hml hown hts hK hA hw k_X_122 (c_X_isState zl G (ad 0) Sx (.int (nI n)) (.int (nI room)) (.int (nI Kx)) (.ref (ad 17)) (.int (nI rs.length)) (.ref (ad 1)) (.ref (ad 2)) (.int (nI ps.length)) (.ref (qa 1)) (.ref (qa 2)) (.ref (qa 3)) (.ref (qa 4)) (.ref (qa 5)) (.ref (qa 6)) (.int (nI E.length)) (.int (nI S.length)) (.ref (qa 7)) (.int (boF ov E.length)) (.int (fuF ov)) (.int (nI md)) (.int (nI ag)) (.ref (ad 18)) (.ref (ad 10)) (.ref (ad 13)) (.ref (ad 16)) (zv 2) (nI b)) ([0]) rfl rfl (fun _ => Nat.le_of_ble_eq_true rfl) 0 rfl rfl rfl rfl hl.1 (Nat.le_of_ble_eq_true rfl) ⟨(by omega), (by omega)⟩ ⟨(by omega), (by omega)⟩ d_X_bad_10 (fun r u H locs hp hw1 => ?_)
    rw [if_pos ⟨nI_pos' (by omega), nI_lt (by omega) (by omega)⟩] at hp
    subst hp
    refine W.cs (cells' := 0) (slots' := 0) rfl rfl ?_
    replace hw : WW G A zs ([oX (ad 0) [.int (nI n), .int (nI room), .int (nI Sx), .int (nI Kx), .ref (ad 17), .int (nI rs.length), .ref (ad 1), .ref (ad 2), .int (nI ps.length), .ref (qa 1), .ref (qa 2), .ref (qa 3), .ref (qa 4), .ref (qa 5), .ref (qa 6), .int (nI E.length), .int (nI S.length), .ref (qa 7), .int (boF ov E.length), .int (fuF ov), .int (nI md), .int (nI ag), .ref (ad 18), .ref (ad 10), .ref (ad 13), .ref (ad 16), zv 2], aZ G (ad 1) 64 fb, aI G (ad 2) 96 fn, aJ G (qa 1) (64 * 2 ^ j) fm, aI G (qa 2) (64 * 2 ^ j) (fs 2), aI G (qa 3) (64 * 2 ^ j) (fs 3), aI G (qa 4) (64 * 2 ^ j) (fs 4), aI G (qa 5) (64 * 2 ^ j) (fs 5), aI G (qa 6) (64 * 2 ^ j) (fs 6), aI G (qa 7) (2 ^ (8 + j)) (fs 7), oW (ad 10) [.ref (ad 11), .ref (ad 12), zv 0], aI G (ad 11) 4 (js 1), aI G (ad 12) 8 (js 2), oW (ad 13) [.ref (ad 14), .ref (ad 15), zv 1], aI G (ad 14) 4 (js 3), aI G (ad 15) 8 (js 4), aI G (ad 16) 4 (js 0), aR G (ad 17) 40 rr, oW (ad 18) [.ref (ad 19), .ref (ad 20), zv 3], aI G (ad 19) 4 (js 5), aI G (ad 20) 8 (js 6)] ++ rp) H locs := hw1
    refine r_if_eq (tgt := 20) hx hb (by omega) d_X_bad_13 (by decide) (fun c_13 => ?_) (fun c_13 => ?_)
    · skip
      exact absurd c_13 (by decide)
    · skip
      refine lv_iconst (v := nI 1) hx hb d_X_bad_16 rfl ?_
      refine lv_goto (tgt := 21) hx hb d_X_bad_17 (by decide) ?_
      refine xS_v (rest := []) (As := [.int (nI 1)]) hx hb hml hown hts hK hA hw k_X_126 (c_X_right zl G) ([]) rfl rfl (fun _ => Nat.le_of_ble_eq_true rfl) rfl rfl hl.1 (Nat.le_of_ble_eq_true rfl) ⟨(by omega), (by omega)⟩ ⟨(by omega), (by omega)⟩ d_X_bad_21 (fun _ u H locs hp hw1 => ?_)
      refine W.cs (cells' := 0) (slots' := 0) rfl rfl ?_
      replace hw : WW G A zs ([oX (ad 0) [.int (nI n), .int (nI room), .int (nI Sx), .int (nI Kx), .ref (ad 17), .int (nI rs.length), .ref (ad 1), .ref (ad 2), .int (nI ps.length), .ref (qa 1), .ref (qa 2), .ref (qa 3), .ref (qa 4), .ref (qa 5), .ref (qa 6), .int (nI E.length), .int (nI S.length), .ref (qa 7), .int (boF ov E.length), .int (fuF ov), .int (nI md), .int (nI ag), .ref (ad 18), .ref (ad 10), .ref (ad 13), .ref (ad 16), zv 2], aZ G (ad 1) 64 fb, aI G (ad 2) 96 fn, aJ G (qa 1) (64 * 2 ^ j) fm, aI G (qa 2) (64 * 2 ^ j) (fs 2), aI G (qa 3) (64 * 2 ^ j) (fs 3), aI G (qa 4) (64 * 2 ^ j) (fs 4), aI G (qa 5) (64 * 2 ^ j) (fs 5), aI G (qa 6) (64 * 2 ^ j) (fs 6), aI G (qa 7) (2 ^ (8 + j)) (fs 7), oW (ad 10) [.ref (ad 11), .ref (ad 12), zv 0], aI G (ad 11) 4 (js 1), aI G (ad 12) 8 (js 2), oW (ad 13) [.ref (ad 14), .ref (ad 15), zv 1], aI G (ad 14) 4 (js 3), aI G (ad 15) 8 (js 4), aI G (ad 16) 4 (js 0), aR G (ad 17) 40 rr, oW (ad 18) [.ref (ad 19), .ref (ad 20), zv 3], aI G (ad 19) 4 (js 5), aI G (ad 20) 8 (js 6)] ++ rp) H locs := hw1
      refine lv_aload_n hx hb d_X_bad_24 rfl (lv_at hl 0 rfl) ?_
      refine g_X_19 hx hb hts hown hK hw 0 rfl rfl d_X_bad_25 ?_
      refine lv_bipush (v := nI 8) hx hb d_X_bad_28 (by decide) ?_
      refine lv_iload_n hx hb d_X_bad_30 rfl (lv_at hl 1 rfl) ?_
      refine r_imulN hx hb d_X_bad_31 ?_
      refine lv_iload_n hx hb d_X_bad_32 rfl (lv_at hl 2 rfl) ?_
      refine r_iaddN hx hb d_X_bad_33 ?_
      refine r_zald hx hb hK hw 1 rfl (by omega) (by omega) d_X_bad_34 ?_
      refine r_eq (show fb ((8 * a) + b) = nI 0 from by rw [hB _ (by omega), hwas]; rfl) ?_
      refine lv_istore_n (lv' := [(3, .int (nI 0)), (0, .ref (ad 0)), (1, .int (nI a)), (2, .int (nI b))]) hx hb d_X_bad_35 rfl hl (by decide) rfl (fun ls hl => ?_)
      refine lv_aload_n hx hb d_X_bad_36 rfl (lv_at hl 1 rfl) ?_
      refine g_X_19 hx hb hts hown hK hw 0 rfl rfl d_X_bad_37 ?_
      refine lv_bipush (v := nI 8) hx hb d_X_bad_40 (by decide) ?_
      refine lv_iload_n hx hb d_X_bad_42 rfl (lv_at hl 2 rfl) ?_
      refine r_imulN hx hb d_X_bad_43 ?_
      refine lv_iload_n hx hb d_X_bad_44 rfl (lv_at hl 3 rfl) ?_
      refine r_iaddN hx hb d_X_bad_45 ?_
      refine lv_iconst (v := nI 1) hx hb d_X_bad_46 rfl ?_
      refine r_zast hx hb hK hw 1 rfl (by omega) (by omega) (y := nI 1) rfl d_X_bad_47 (fun H locs hw1 => ?_)
      replace hw : WW G A zs ([oX (ad 0) [.int (nI n), .int (nI room), .int (nI Sx), .int (nI Kx), .ref (ad 17), .int (nI rs.length), .ref (ad 1), .ref (ad 2), .int (nI ps.length), .ref (qa 1), .ref (qa 2), .ref (qa 3), .ref (qa 4), .ref (qa 5), .ref (qa 6), .int (nI E.length), .int (nI S.length), .ref (qa 7), .int (boF ov E.length), .int (fuF ov), .int (nI md), .int (nI ag), .ref (ad 18), .ref (ad 10), .ref (ad 13), .ref (ad 16), zv 2], aZ G (ad 1) 64 (upd fb ((8 * a) + b) (nI 1)), aI G (ad 2) 96 fn, aJ G (qa 1) (64 * 2 ^ j) fm, aI G (qa 2) (64 * 2 ^ j) (fs 2), aI G (qa 3) (64 * 2 ^ j) (fs 3), aI G (qa 4) (64 * 2 ^ j) (fs 4), aI G (qa 5) (64 * 2 ^ j) (fs 5), aI G (qa 6) (64 * 2 ^ j) (fs 6), aI G (qa 7) (2 ^ (8 + j)) (fs 7), oW (ad 10) [.ref (ad 11), .ref (ad 12), zv 0], aI G (ad 11) 4 (js 1), aI G (ad 12) 8 (js 2), oW (ad 13) [.ref (ad 14), .ref (ad 15), zv 1], aI G (ad 14) 4 (js 3), aI G (ad 15) 8 (js 4), aI G (ad 16) 4 (js 0), aR G (ad 17) 40 rr, oW (ad 18) [.ref (ad 19), .ref (ad 20), zv 3], aI G (ad 19) 4 (js 5), aI G (ad 20) 8 (js 6)] ++ rp) H locs := hw1
      refine lv_aload_n hx hb d_X_bad_48 rfl (lv_at hl 1 rfl) ?_
      refine g_X_19 hx hb hts hown hK hw 0 rfl rfl d_X_bad_49 ?_
      refine lv_bipush (v := nI 8) hx hb d_X_bad_52 (by decide) ?_
      refine lv_iload_n hx hb d_X_bad_54 rfl (lv_at hl 3 rfl) ?_
      refine r_imulN hx hb d_X_bad_55 ?_
      refine lv_iload_n hx hb d_X_bad_56 rfl (lv_at hl 2 rfl) ?_
      refine r_iaddN hx hb d_X_bad_57 ?_
      refine lv_iconst (v := nI 1) hx hb d_X_bad_58 rfl ?_
      refine r_zast hx hb hK hw 1 rfl (by omega) (by omega) (y := nI 1) rfl d_X_bad_59 (fun H locs hw1 => ?_)
      replace hw : WW G A zs ([oX (ad 0) [.int (nI n), .int (nI room), .int (nI Sx), .int (nI Kx), .ref (ad 17), .int (nI rs.length), .ref (ad 1), .ref (ad 2), .int (nI ps.length), .ref (qa 1), .ref (qa 2), .ref (qa 3), .ref (qa 4), .ref (qa 5), .ref (qa 6), .int (nI E.length), .int (nI S.length), .ref (qa 7), .int (boF ov E.length), .int (fuF ov), .int (nI md), .int (nI ag), .ref (ad 18), .ref (ad 10), .ref (ad 13), .ref (ad 16), zv 2], aZ G (ad 1) 64 (upd (upd fb ((8 * a) + b) (nI 1)) ((8 * b) + a) (nI 1)), aI G (ad 2) 96 fn, aJ G (qa 1) (64 * 2 ^ j) fm, aI G (qa 2) (64 * 2 ^ j) (fs 2), aI G (qa 3) (64 * 2 ^ j) (fs 3), aI G (qa 4) (64 * 2 ^ j) (fs 4), aI G (qa 5) (64 * 2 ^ j) (fs 5), aI G (qa 6) (64 * 2 ^ j) (fs 6), aI G (qa 7) (2 ^ (8 + j)) (fs 7), oW (ad 10) [.ref (ad 11), .ref (ad 12), zv 0], aI G (ad 11) 4 (js 1), aI G (ad 12) 8 (js 2), oW (ad 13) [.ref (ad 14), .ref (ad 15), zv 1], aI G (ad 14) 4 (js 3), aI G (ad 15) 8 (js 4), aI G (ad 16) 4 (js 0), aR G (ad 17) 40 rr, oW (ad 18) [.ref (ad 19), .ref (ad 20), zv 3], aI G (ad 19) 4 (js 5), aI G (ad 20) 8 (js 6)] ++ rp) H locs := hw1
      refine lv_iload_n hx hb d_X_bad_60 rfl (lv_at hl 0 rfl) ?_
      refine r_if_ne (tgt := 68) hx hb (by omega) d_X_bad_61 (by decide) (fun c_61 => ?_) (fun c_61 => ?_)
      · skip
        exfalso; omega
      · skip
        refine lv_aload_n hx hb d_X_bad_64 rfl (lv_at hl 1 rfl) ?_
        refine xV_v (rest := []) (As := []) hx hb hml hown hts hK hA hw k_X_84 (c_X_forget zl G (ad 0) (qa 7) (2 ^ (8 + j)) (.int (nI n)) (.int (nI room)) (.int (nI Sx)) (.int (nI Kx)) (.ref (ad 17)) (.int (nI rs.length)) (.ref (ad 1)) (.ref (ad 2)) (.int (nI ps.length)) (.ref (qa 1)) (.ref (qa 2)) (.ref (qa 3)) (.ref (qa 4)) (.ref (qa 5)) (.ref (qa 6)) (.int (nI E.length)) (.int (nI S.length)) (.int (boF ov E.length)) (.int (fuF ov)) (.int (nI md)) (.int (nI ag)) (.ref (ad 18)) (.ref (ad 10)) (.ref (ad 13)) (.ref (ad 16)) (zv 2) (fs 7) (by omega)) ([0, 9]) rfl rfl (fun _ => Nat.le_of_ble_eq_true rfl) 0 rfl rfl rfl rfl hl.1 (Nat.le_of_ble_eq_true rfl) ⟨(by omega), (by omega)⟩ ⟨(by omega), (by omega)⟩ d_X_bad_65 (fun _ tb9 H locs hp hw1 => ?_)
        obtain ⟨fs9, efs9⟩ : ∃ g : Nat → Nat → Int32, g = va_up fs 7 tb9 := ⟨_, rfl⟩
        refine W.cs (cells' := 0) (slots' := 0) rfl rfl ?_
        replace hw : WW G A zs ([oX (ad 0) [.int (nI n), .int (nI room), .int (nI Sx), .int (nI Kx), .ref (ad 17), .int (nI rs.length), .ref (ad 1), .ref (ad 2), .int (nI ps.length), .ref (qa 1), .ref (qa 2), .ref (qa 3), .ref (qa 4), .ref (qa 5), .ref (qa 6), .int (nI (([] : List Ent).length)), .int (nI 0), .ref (qa 7), .int (boF 0 ([] : List Ent).length), .int (fuF 0), .int (nI 0), .int (nI 0), .ref (ad 18), .ref (ad 10), .ref (ad 13), .ref (ad 16), zv 2], aZ G (ad 1) 64 (upd (upd fb ((8 * a) + b) (nI 1)) ((8 * b) + a) (nI 1)), aI G (ad 2) 96 fn, aJ G (qa 1) (64 * 2 ^ j) fm, aI G (qa 2) (64 * 2 ^ j) (fs 2), aI G (qa 3) (64 * 2 ^ j) (fs 3), aI G (qa 4) (64 * 2 ^ j) (fs 4), aI G (qa 5) (64 * 2 ^ j) (fs 5), aI G (qa 6) (64 * 2 ^ j) (fs 6), aI G (qa 7) (2 ^ (8 + j)) tb9, oW (ad 10) [.ref (ad 11), .ref (ad 12), zv 0], aI G (ad 11) 4 (js 1), aI G (ad 12) 8 (js 2), oW (ad 13) [.ref (ad 14), .ref (ad 15), zv 1], aI G (ad 14) 4 (js 3), aI G (ad 15) 8 (js 4), aI G (ad 16) 4 (js 0), aR G (ad 17) 40 rr, oW (ad 18) [.ref (ad 19), .ref (ad 20), zv 3], aI G (ad 19) 4 (js 5), aI G (ad 20) 8 (js 6)] ++ rp) H locs := hw1
        replace hw : WW G A zs ([oX (ad 0) [.int (nI n), .int (nI room), .int (nI Sx), .int (nI Kx), .ref (ad 17), .int (nI rs.length), .ref (ad 1), .ref (ad 2), .int (nI ps.length), .ref (qa 1), .ref (qa 2), .ref (qa 3), .ref (qa 4), .ref (qa 5), .ref (qa 6), .int (nI (([] : List Ent).length)), .int (nI 0), .ref (qa 7), .int (boF 0 ([] : List Ent).length), .int (fuF 0), .int (nI 0), .int (nI 0), .ref (ad 18), .ref (ad 10), .ref (ad 13), .ref (ad 16), zv 2], aZ G (ad 1) 64 (upd (upd fb (8 * a + b) (nI 1)) (8 * b + a) (nI 1)), aI G (ad 2) 96 fn, aJ G (qa 1) (64 * 2 ^ j) fm, aI G (qa 2) (64 * 2 ^ j) (fs9 2), aI G (qa 3) (64 * 2 ^ j) (fs9 3), aI G (qa 4) (64 * 2 ^ j) (fs9 4), aI G (qa 5) (64 * 2 ^ j) (fs9 5), aI G (qa 6) (64 * 2 ^ j) (fs9 6), aI G (qa 7) (2 ^ (8 + j)) (fs9 7), oW (ad 10) [.ref (ad 11), .ref (ad 12), zv 0], aI G (ad 11) 4 (js 1), aI G (ad 12) 8 (js 2), oW (ad 13) [.ref (ad 14), .ref (ad 15), zv 1], aI G (ad 14) 4 (js 3), aI G (ad 15) 8 (js 4), aI G (ad 16) 4 (js 0), aR G (ad 17) 40 rr, oW (ad 18) [.ref (ad 19), .ref (ad 20), zv 3], aI G (ad 19) 4 (js 5), aI G (ad 20) 8 (js 6)] ++ rp) H locs := by rw [efs9]; exact hw
        refine lv_iload_n hx hb d_X_bad_68 rfl (lv_at hl 0 rfl) ?_
        refine r_if_ne (tgt := 76) hx hb (by omega) d_X_bad_69 (by decide) (fun c_69 => ?_) (fun c_69 => ?_)
        · skip
          exfalso; omega
        · skip
          refine lv_iconst (v := nI 1) hx hb d_X_bad_72 rfl ?_
          refine lv_goto (tgt := 77) hx hb d_X_bad_73 (by decide) ?_
          exact r_ret hQ (r_zret (qa, fm, fs9, js, zv, upd (upd fb (8 * a + b) (nI 1)) (8 * b + a) (nI 1)) hx hb hr hlk hw (⟨rfl, XR.empty hj7 (by rw [efs9]; exact hp), bad_f hB (by omega) (by omega)⟩) (by decide) (by omega) (by omega) d_X_bad_77)
