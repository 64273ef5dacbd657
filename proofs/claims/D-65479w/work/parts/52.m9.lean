theorem evI_of {ev : Option Nat} {K : Nat} (h : ∀ k, ev = some k → k < K) (hK : K ≤ 6) (hn : ¬ evI ev = -1) : 0 ≤ evI ev ∧ evI ev < nI K := by
  cases ev with
  | none => exact absurd rfl hn
  | some k =>
    have := h k rfl
    exact ⟨nI_pos' (by omega), nI_lt (by omega) (by omega)⟩
set_option maxHeartbeats 4000000 in
set_option maxRecDepth 100000 in
theorem c_M_state (zl : Launch) (G : GG) (am : Nat → Nat) (fa : Nat → Nat → Int32) (zv : Nat → Value) (th bw : Int32) (n room Sx Kx : Nat) (ps pm : List (List Nat)) (B : Nat → Bool) (rs : List Rl) (E : List Ent) (S : List Nat) (md ag ov : Nat) (hlt : Sx < 8) : Ctr (S := Unit) vI zl y_M_state b_M_state 1 (Option.some Jvm.ClassFile.FieldType.int) 1 0 0 G [.ref (am 0)] ([oM (am 0) [.int th, .int (nI n), .int (nI room), .int (nI Sx), .int (nI Kx), .int (nI rs.length), .ref (am 1), .ref (am 2), .ref (am 3), .ref (am 4), .ref (am 5), .ref (am 6), .ref (am 7), .ref (am 8), .int (nI pm.length), .int (nI E.length), .int (nI S.length), .int (nI md), .int (nI ag), .int (nI (deadN S S.length)), .int (anF ov), .int bw, .ref (am 9), .ref (am 10), .ref (am 11), .ref (am 12), .ref (am 13), .ref (am 14), .ref (am 15), .ref (am 16), .ref (am 17), .ref (am 18), zv 0, zv 1], aI G (am 1) 40 (fa 1), aI G (am 2) 40 (fa 2), aI G (am 3) 40 (fa 3), aI G (am 4) 40 (fa 4), aI G (am 5) 160 (fa 5), aI G (am 6) 160 (fa 6), aZ G (am 7) 64 (fa 7), aI G (am 8) 96 (fa 8), aI G (am 9) 98304 (fa 9), aI G (am 10) 8192 (fa 10), aI G (am 11) 8192 (fa 11), aI G (am 12) 8192 (fa 12), aI G (am 13) 8192 (fa 13), aI G (am 14) 8192 (fa 14), aI G (am 15) 8192 (fa 15), aI G (am 16) 12 (fa 16), aI G (am 17) 12 (fa 17), aI G (am 18) 12 (fa 18)]) (fun r _ => r = nI Sx) (fun u => [oM (am 0) [.int (nI 0), .int (nI n), .int (nI room), .int (nI (Sx + 1)), .int (nI Kx), .int (nI rs.length), .ref (am 1), .ref (am 2), .ref (am 3), .ref (am 4), .ref (am 5), .ref (am 6), .ref (am 7), .ref (am 8), .int (nI pm.length), .int (nI (([] : List Ent).length)), .int (nI (([] : List Nat).length)), .int (nI 0), .int (nI 0), .int (nI (deadN ([] : List Nat) ([] : List Nat).length)), .int (anF 0), .int (-1), .ref (am 9), .ref (am 10), .ref (am 11), .ref (am 12), .ref (am 13), .ref (am 14), .ref (am 15), .ref (am 16), .ref (am 17), .ref (am 18), zv 0, zv 1], aI G (am 1) 40 (fa 1), aI G (am 2) 40 (fa 2), aI G (am 3) 40 (fa 3), aI G (am 4) 40 (fa 4), aI G (am 5) 160 (fa 5), aI G (am 6) 160 (fa 6), aZ G (am 7) 64 (fa 7), aI G (am 8) 96 (fa 8), aI G (am 9) 98304 (fa 9), aI G (am 10) 8192 (fa 10), aI G (am 11) 8192 (fa 11), aI G (am 12) 8192 (fa 12), aI G (am 13) 8192 (fa 13), aI G (am 14) 8192 (fa 14), aI G (am 15) 8192 (fa 15), aI G (am 16) 12 (fa 16), aI G (am 17) 12 (fa 17), aI G (am 18) 12 (fa 18)]) := by
  refine Ctr.start (by decide) (Nat.le_of_ble_eq_true rfl) ?_
  intro zp ze zs zm below meth zc A ls C0 hin hK hA hl hw
  obtain ⟨hx, hb, hr, hlk, hml, hown, hts⟩ := C0
  obtain ⟨R, hRR⟩ : ∃ R : Room, R = rmL 1 0 0 := ⟨_, rfl⟩
  have hRf : R.frames = 1 := by rw [hRR]
  have hRl : R.locals = 64 * 1 := by rw [hRR]
  have hRc : R.cells = 0 := by rw [hRR]
  have hRs : R.slots = 0 := by rw [hRR]
  rw [← hRR]; clear hRR
  generalize hQ : MQ below _ _ zs _ _ A = Q
  generalize hAr : List.toArray _ = args at hts hQ ⊢
  replace hl : lv_has ls 1 [(0, .ref (am 0))] := hl
  obtain ⟨H, eH⟩ : ∃ H : Heap, H = zs.heap := ⟨_, rfl⟩
  obtain ⟨locs, eL⟩ : ∃ l0 : List Loc, l0 = [] := ⟨_, rfl⟩
  rw [← eH, ← eL] at hw ⊢; clear eH eL
  refine lv_aload_n hx hb d_M_state_0 rfl (lv_at hl 0 rfl) ?_
  refine lv_aload_n hx hb d_M_state_1 rfl (lv_at hl 0 rfl) ?_
  refine g_M_7 hx hb hts hown hK hw 0 rfl rfl d_M_state_2 ?_
  refine lv_bipush (v := nI 8) hx hb d_M_state_5 (by decide) ?_
  refine r_icmp_ne (tgt := 14) hx hb (by omega) (by omega) d_M_state_7 (by decide) (fun c_7 => ?_) (fun c_7 => ?_)
  · skip
    refine lv_iconst (v := nI 0) hx hb d_M_state_14 rfl ?_
    refine lv_iconst (v := nI 0) hx hb d_M_state_15 rfl ?_
    refine xV_i (rest := []) (As := [.int (nI 0), .int (nI 0)]) hx hb hml hown hts hK hA hw k_M_103 (c_M_throwing zl G (am 0) th (nI 0) (nI 0) (.int (nI n)) (.int (nI room)) (.int (nI Sx)) (.int (nI Kx)) (.int (nI rs.length)) (.ref (am 1)) (.ref (am 2)) (.ref (am 3)) (.ref (am 4)) (.ref (am 5)) (.ref (am 6)) (.ref (am 7)) (.ref (am 8)) (.int (nI pm.length)) (.int (nI E.length)) (.int (nI S.length)) (.int (nI md)) (.int (nI ag)) (.int (nI (deadN S S.length))) (.int (anF ov)) (.int bw) (.ref (am 9)) (.ref (am 10)) (.ref (am 11)) (.ref (am 12)) (.ref (am 13)) (.ref (am 14)) (.ref (am 15)) (.ref (am 16)) (.ref (am 17)) (.ref (am 18)) (zv 0) (zv 1)) ([0]) rfl rfl (fun _ => Nat.le_of_ble_eq_true rfl) 0 rfl rfl rfl rfl hl.1 (Nat.le_of_ble_eq_true rfl) ⟨(by omega), (by omega)⟩ ⟨(by omega), (by omega)⟩ d_M_state_16 (fun r u3 H locs hp hw1 => ?_)
    obtain ⟨rfl, rfl⟩ := hp
    refine W.cs (cells' := 0) (slots' := 0) rfl rfl ?_
    replace hw : WW G A zs ([oM (am 0) [.int (nI 0), .int (nI n), .int (nI room), .int (nI Sx), .int (nI Kx), .int (nI rs.length), .ref (am 1), .ref (am 2), .ref (am 3), .ref (am 4), .ref (am 5), .ref (am 6), .ref (am 7), .ref (am 8), .int (nI pm.length), .int (nI E.length), .int (nI S.length), .int (nI md), .int (nI ag), .int (nI (deadN S S.length)), .int (anF ov), .int bw, .ref (am 9), .ref (am 10), .ref (am 11), .ref (am 12), .ref (am 13), .ref (am 14), .ref (am 15), .ref (am 16), .ref (am 17), .ref (am 18), zv 0, zv 1], aI G (am 1) 40 (fa 1), aI G (am 2) 40 (fa 2), aI G (am 3) 40 (fa 3), aI G (am 4) 40 (fa 4), aI G (am 5) 160 (fa 5), aI G (am 6) 160 (fa 6), aZ G (am 7) 64 (fa 7), aI G (am 8) 96 (fa 8), aI G (am 9) 98304 (fa 9), aI G (am 10) 8192 (fa 10), aI G (am 11) 8192 (fa 11), aI G (am 12) 8192 (fa 12), aI G (am 13) 8192 (fa 13), aI G (am 14) 8192 (fa 14), aI G (am 15) 8192 (fa 15), aI G (am 16) 12 (fa 16), aI G (am 17) 12 (fa 17), aI G (am 18) 12 (fa 18)]) H locs := hw1
    refine r_if_eq (tgt := 24) hx hb (by omega) d_M_state_19 (by decide) (fun c_19 => ?_) (fun c_19 => ?_)
    · skip
      refine lv_aload_n hx hb d_M_state_24 rfl (lv_at hl 0 rfl) ?_
      refine xV_v (rest := []) (As := []) hx hb hml hown hts hK hA hw k_M_107 (c_M_forget zl G (am 0) _ _ _ _ _ _ _ _ _ _ _ _ _ _ _ _ _ _ _ _ _ _ _ _ _ _ _ _ _ _ _ _ _ _) ([0]) rfl rfl (fun _ => Nat.le_of_ble_eq_true rfl) 0 rfl rfl rfl rfl hl.1 (Nat.le_of_ble_eq_true rfl) ⟨(by omega), (by omega)⟩ ⟨(by omega), (by omega)⟩ d_M_state_25 (fun _ u H locs hp hw1 => ?_)
      refine W.cs (cells' := 0) (slots' := 0) rfl rfl ?_
      replace hw : WW G A zs ([oM (am 0) [.int (nI 0), .int (nI n), .int (nI room), .int (nI Sx), .int (nI Kx), .int (nI rs.length), .ref (am 1), .ref (am 2), .ref (am 3), .ref (am 4), .ref (am 5), .ref (am 6), .ref (am 7), .ref (am 8), .int (nI pm.length), .int (nI 0), .int (nI 0), .int (nI 0), .int (nI 0), .int (nI 0), .int (nI 0), .int (-1), .ref (am 9), .ref (am 10), .ref (am 11), .ref (am 12), .ref (am 13), .ref (am 14), .ref (am 15), .ref (am 16), .ref (am 17), .ref (am 18), zv 0, zv 1], aI G (am 1) 40 (fa 1), aI G (am 2) 40 (fa 2), aI G (am 3) 40 (fa 3), aI G (am 4) 40 (fa 4), aI G (am 5) 160 (fa 5), aI G (am 6) 160 (fa 6), aZ G (am 7) 64 (fa 7), aI G (am 8) 96 (fa 8), aI G (am 9) 98304 (fa 9), aI G (am 10) 8192 (fa 10), aI G (am 11) 8192 (fa 11), aI G (am 12) 8192 (fa 12), aI G (am 13) 8192 (fa 13), aI G (am 14) 8192 (fa 14), aI G (am 15) 8192 (fa 15), aI G (am 16) 12 (fa 16), aI G (am 17) 12 (fa 17), aI G (am 18) 12 (fa 18)]) H locs := hw1
      refine lv_aload_n hx hb d_M_state_28 rfl (lv_at hl 0 rfl) ?_
      refine lv_dup hx hb d_M_state_29 rfl ?_
      refine g_M_7 hx hb hts hown hK hw 0 rfl rfl d_M_state_30 ?_
      refine lv_iconst (v := nI 1) hx hb d_M_state_33 rfl ?_
      refine r_iaddN hx hb d_M_state_34 ?_
      refine p_M_7 hx hb hts hown hK hw 0 rfl (Nat.le_of_ble_eq_true rfl) d_M_state_35 (fun H locs hw1 => ?_)
      replace hw : WW G A zs ([oM (am 0) [.int (nI 0), .int (nI n), .int (nI room), .int (nI (Sx + 1)), .int (nI Kx), .int (nI rs.length), .ref (am 1), .ref (am 2), .ref (am 3), .ref (am 4), .ref (am 5), .ref (am 6), .ref (am 7), .ref (am 8), .int (nI pm.length), .int (nI 0), .int (nI 0), .int (nI 0), .int (nI 0), .int (nI 0), .int (nI 0), .int (-1), .ref (am 9), .ref (am 10), .ref (am 11), .ref (am 12), .ref (am 13), .ref (am 14), .ref (am 15), .ref (am 16), .ref (am 17), .ref (am 18), zv 0, zv 1], aI G (am 1) 40 (fa 1), aI G (am 2) 40 (fa 2), aI G (am 3) 40 (fa 3), aI G (am 4) 40 (fa 4), aI G (am 5) 160 (fa 5), aI G (am 6) 160 (fa 6), aZ G (am 7) 64 (fa 7), aI G (am 8) 96 (fa 8), aI G (am 9) 98304 (fa 9), aI G (am 10) 8192 (fa 10), aI G (am 11) 8192 (fa 11), aI G (am 12) 8192 (fa 12), aI G (am 13) 8192 (fa 13), aI G (am 14) 8192 (fa 14), aI G (am 15) 8192 (fa 15), aI G (am 16) 12 (fa 16), aI G (am 17) 12 (fa 17), aI G (am 18) 12 (fa 18)]) H locs := hw1
      refine lv_aload_n hx hb d_M_state_38 rfl (lv_at hl 0 rfl) ?_
      refine g_M_7 hx hb hts hown hK hw 0 rfl rfl d_M_state_39 ?_
      refine lv_iconst (v := nI 1) hx hb d_M_state_42 rfl ?_
      refine r_isubN hx hb (by omega) d_M_state_43 ?_
      refine r_eq (show nI ((Sx + 1) - 1) = nI Sx from congrArg nI (by omega)) ?_
      exact r_ret hQ (r_iret () hx hb hr hlk hw rfl (by omega) (by omega) d_M_state_44)
    · skip
      exact absurd c_19 (by decide)
  · skip
    exfalso; omega
set_option maxHeartbeats 4000000 in
set_option maxRecDepth 100000 in
theorem c_M_stateX (zl : Launch) (G : GG) (am : Nat → Nat) (fa : Nat → Nat → Int32) (zv : Nat → Value) (th bw : Int32) (n room Sx Kx : Nat) (ps pm : List (List Nat)) (B : Nat → Bool) (rs : List Rl) (E : List Ent) (S : List Nat) (md ag ov : Nat) (hlt : Sx = 8) : Ctr (S := Unit) vI zl y_M_state b_M_state 1 (Option.some Jvm.ClassFile.FieldType.int) 1 0 0 G [.ref (am 0)] ([oM (am 0) [.int th, .int (nI n), .int (nI room), .int (nI Sx), .int (nI Kx), .int (nI rs.length), .ref (am 1), .ref (am 2), .ref (am 3), .ref (am 4), .ref (am 5), .ref (am 6), .ref (am 7), .ref (am 8), .int (nI pm.length), .int (nI E.length), .int (nI S.length), .int (nI md), .int (nI ag), .int (nI (deadN S S.length)), .int (anF ov), .int bw, .ref (am 9), .ref (am 10), .ref (am 11), .ref (am 12), .ref (am 13), .ref (am 14), .ref (am 15), .ref (am 16), .ref (am 17), .ref (am 18), zv 0, zv 1], aI G (am 1) 40 (fa 1), aI G (am 2) 40 (fa 2), aI G (am 3) 40 (fa 3), aI G (am 4) 40 (fa 4), aI G (am 5) 160 (fa 5), aI G (am 6) 160 (fa 6), aZ G (am 7) 64 (fa 7), aI G (am 8) 96 (fa 8), aI G (am 9) 98304 (fa 9), aI G (am 10) 8192 (fa 10), aI G (am 11) 8192 (fa 11), aI G (am 12) 8192 (fa 12), aI G (am 13) 8192 (fa 13), aI G (am 14) 8192 (fa 14), aI G (am 15) 8192 (fa 15), aI G (am 16) 12 (fa 16), aI G (am 17) 12 (fa 17), aI G (am 18) 12 (fa 18)]) (fun _ _ => True) (fun _ => [oM (am 0) [.int (nI 1), .int (nI n), .int (nI room), .int (nI Sx), .int (nI Kx), .int (nI rs.length), .ref (am 1), .ref (am 2), .ref (am 3), .ref (am 4), .ref (am 5), .ref (am 6), .ref (am 7), .ref (am 8), .int (nI pm.length), .int (nI E.length), .int (nI S.length), .int (nI md), .int (nI ag), .int (nI (deadN S S.length)), .int (anF ov), .int bw, .ref (am 9), .ref (am 10), .ref (am 11), .ref (am 12), .ref (am 13), .ref (am 14), .ref (am 15), .ref (am 16), .ref (am 17), .ref (am 18), zv 0, zv 1], aI G (am 1) 40 (fa 1), aI G (am 2) 40 (fa 2), aI G (am 3) 40 (fa 3), aI G (am 4) 40 (fa 4), aI G (am 5) 160 (fa 5), aI G (am 6) 160 (fa 6), aZ G (am 7) 64 (fa 7), aI G (am 8) 96 (fa 8), aI G (am 9) 98304 (fa 9), aI G (am 10) 8192 (fa 10), aI G (am 11) 8192 (fa 11), aI G (am 12) 8192 (fa 12), aI G (am 13) 8192 (fa 13), aI G (am 14) 8192 (fa 14), aI G (am 15) 8192 (fa 15), aI G (am 16) 12 (fa 16), aI G (am 17) 12 (fa 17), aI G (am 18) 12 (fa 18)]) := by
  refine Ctr.start (by decide) (Nat.le_of_ble_eq_true rfl) ?_
  intro zp ze zs zm below meth zc A ls C0 hin hK hA hl hw
  obtain ⟨hx, hb, hr, hlk, hml, hown, hts⟩ := C0
  obtain ⟨R, hRR⟩ : ∃ R : Room, R = rmL 1 0 0 := ⟨_, rfl⟩
  have hRf : R.frames = 1 := by rw [hRR]
  have hRl : R.locals = 64 * 1 := by rw [hRR]
  have hRc : R.cells = 0 := by rw [hRR]
  have hRs : R.slots = 0 := by rw [hRR]
  rw [← hRR]; clear hRR
  generalize hQ : MQ below _ _ zs _ _ A = Q
  generalize hAr : List.toArray _ = args at hts hQ ⊢
  replace hl : lv_has ls 1 [(0, .ref (am 0))] := hl
  obtain ⟨H, eH⟩ : ∃ H : Heap, H = zs.heap := ⟨_, rfl⟩
  obtain ⟨locs, eL⟩ : ∃ l0 : List Loc, l0 = [] := ⟨_, rfl⟩
  rw [← eH, ← eL] at hw ⊢; clear eH eL
  refine lv_aload_n hx hb d_M_state_0 rfl (lv_at hl 0 rfl) ?_
  refine lv_aload_n hx hb d_M_state_1 rfl (lv_at hl 0 rfl) ?_
  refine g_M_7 hx hb hts hown hK hw 0 rfl rfl d_M_state_2 ?_
  refine lv_bipush (v := nI 8) hx hb d_M_state_5 (by decide) ?_
  refine r_icmp_ne (tgt := 14) hx hb (by omega) (by omega) d_M_state_7 (by decide) (fun c_7 => ?_) (fun c_7 => ?_)
  · skip
    exfalso; omega
  · skip
    refine lv_iconst (v := nI 1) hx hb d_M_state_10 rfl ?_
    refine lv_goto (tgt := 15) hx hb d_M_state_11 (by decide) ?_
    refine lv_iconst (v := nI 0) hx hb d_M_state_15 rfl ?_
    refine xV_i (rest := []) (As := [.int (nI 1), .int (nI 0)]) hx hb hml hown hts hK hA hw k_M_103 (c_M_throwing zl G (am 0) th (nI 1) (nI 0) (.int (nI n)) (.int (nI room)) (.int (nI Sx)) (.int (nI Kx)) (.int (nI rs.length)) (.ref (am 1)) (.ref (am 2)) (.ref (am 3)) (.ref (am 4)) (.ref (am 5)) (.ref (am 6)) (.ref (am 7)) (.ref (am 8)) (.int (nI pm.length)) (.int (nI E.length)) (.int (nI S.length)) (.int (nI md)) (.int (nI ag)) (.int (nI (deadN S S.length))) (.int (anF ov)) (.int bw) (.ref (am 9)) (.ref (am 10)) (.ref (am 11)) (.ref (am 12)) (.ref (am 13)) (.ref (am 14)) (.ref (am 15)) (.ref (am 16)) (.ref (am 17)) (.ref (am 18)) (zv 0) (zv 1)) ([0]) rfl rfl (fun _ => Nat.le_of_ble_eq_true rfl) 0 rfl rfl rfl rfl hl.1 (Nat.le_of_ble_eq_true rfl) ⟨(by omega), (by omega)⟩ ⟨(by omega), (by omega)⟩ d_M_state_16 (fun r u3 H locs hp hw1 => ?_)
    obtain ⟨rfl, rfl⟩ := hp
    refine W.cs (cells' := 0) (slots' := 0) rfl rfl ?_
    replace hw : WW G A zs ([oM (am 0) [.int (nI 1), .int (nI n), .int (nI room), .int (nI Sx), .int (nI Kx), .int (nI rs.length), .ref (am 1), .ref (am 2), .ref (am 3), .ref (am 4), .ref (am 5), .ref (am 6), .ref (am 7), .ref (am 8), .int (nI pm.length), .int (nI E.length), .int (nI S.length), .int (nI md), .int (nI ag), .int (nI (deadN S S.length)), .int (anF ov), .int bw, .ref (am 9), .ref (am 10), .ref (am 11), .ref (am 12), .ref (am 13), .ref (am 14), .ref (am 15), .ref (am 16), .ref (am 17), .ref (am 18), zv 0, zv 1], aI G (am 1) 40 (fa 1), aI G (am 2) 40 (fa 2), aI G (am 3) 40 (fa 3), aI G (am 4) 40 (fa 4), aI G (am 5) 160 (fa 5), aI G (am 6) 160 (fa 6), aZ G (am 7) 64 (fa 7), aI G (am 8) 96 (fa 8), aI G (am 9) 98304 (fa 9), aI G (am 10) 8192 (fa 10), aI G (am 11) 8192 (fa 11), aI G (am 12) 8192 (fa 12), aI G (am 13) 8192 (fa 13), aI G (am 14) 8192 (fa 14), aI G (am 15) 8192 (fa 15), aI G (am 16) 12 (fa 16), aI G (am 17) 12 (fa 17), aI G (am 18) 12 (fa 18)]) H locs := hw1
    refine r_if_eq (tgt := 24) hx hb (by omega) d_M_state_19 (by decide) (fun c_19 => ?_) (fun c_19 => ?_)
    · skip
      exact absurd c_19 (by decide)
    · skip
      refine lv_iconst (v := nI 0) hx hb d_M_state_22 rfl ?_
      exact r_ret hQ (r_iret () hx hb hr hlk hw trivial (by omega) (by omega) d_M_state_23)
set_option maxHeartbeats 4000000 in
set_option maxRecDepth 100000 in
theorem c_M_message (zl : Launch) (G : GG) (am : Nat → Nat) (fa : Nat → Nat → Int32) (zv : Nat → Value) (th bw : Int32) (n room Sx Kx : Nat) (ps pm : List (List Nat)) (B : Nat → Bool) (rs : List Rl) (E : List Ent) (S : List Nat) (md ag ov : Nat) (hlt : Kx < 6) : Ctr (S := Unit) vI zl y_M_message b_M_message 1 (Option.some Jvm.ClassFile.FieldType.int) 1 0 0 G [.ref (am 0)] ([oM (am 0) [.int th, .int (nI n), .int (nI room), .int (nI Sx), .int (nI Kx), .int (nI rs.length), .ref (am 1), .ref (am 2), .ref (am 3), .ref (am 4), .ref (am 5), .ref (am 6), .ref (am 7), .ref (am 8), .int (nI pm.length), .int (nI E.length), .int (nI S.length), .int (nI md), .int (nI ag), .int (nI (deadN S S.length)), .int (anF ov), .int bw, .ref (am 9), .ref (am 10), .ref (am 11), .ref (am 12), .ref (am 13), .ref (am 14), .ref (am 15), .ref (am 16), .ref (am 17), .ref (am 18), zv 0, zv 1], aI G (am 1) 40 (fa 1), aI G (am 2) 40 (fa 2), aI G (am 3) 40 (fa 3), aI G (am 4) 40 (fa 4), aI G (am 5) 160 (fa 5), aI G (am 6) 160 (fa 6), aZ G (am 7) 64 (fa 7), aI G (am 8) 96 (fa 8), aI G (am 9) 98304 (fa 9), aI G (am 10) 8192 (fa 10), aI G (am 11) 8192 (fa 11), aI G (am 12) 8192 (fa 12), aI G (am 13) 8192 (fa 13), aI G (am 14) 8192 (fa 14), aI G (am 15) 8192 (fa 15), aI G (am 16) 12 (fa 16), aI G (am 17) 12 (fa 17), aI G (am 18) 12 (fa 18)]) (fun r _ => r = nI Kx) (fun u => [oM (am 0) [.int (nI 0), .int (nI n), .int (nI room), .int (nI Sx), .int (nI (Kx + 1)), .int (nI rs.length), .ref (am 1), .ref (am 2), .ref (am 3), .ref (am 4), .ref (am 5), .ref (am 6), .ref (am 7), .ref (am 8), .int (nI pm.length), .int (nI (([] : List Ent).length)), .int (nI (([] : List Nat).length)), .int (nI 0), .int (nI 0), .int (nI (deadN ([] : List Nat) ([] : List Nat).length)), .int (anF 0), .int (-1), .ref (am 9), .ref (am 10), .ref (am 11), .ref (am 12), .ref (am 13), .ref (am 14), .ref (am 15), .ref (am 16), .ref (am 17), .ref (am 18), zv 0, zv 1], aI G (am 1) 40 (fa 1), aI G (am 2) 40 (fa 2), aI G (am 3) 40 (fa 3), aI G (am 4) 40 (fa 4), aI G (am 5) 160 (fa 5), aI G (am 6) 160 (fa 6), aZ G (am 7) 64 (fa 7), aI G (am 8) 96 (fa 8), aI G (am 9) 98304 (fa 9), aI G (am 10) 8192 (fa 10), aI G (am 11) 8192 (fa 11), aI G (am 12) 8192 (fa 12), aI G (am 13) 8192 (fa 13), aI G (am 14) 8192 (fa 14), aI G (am 15) 8192 (fa 15), aI G (am 16) 12 (fa 16), aI G (am 17) 12 (fa 17), aI G (am 18) 12 (fa 18)]) := by
  refine Ctr.start (by decide) (Nat.le_of_ble_eq_true rfl) ?_
  intro zp ze zs zm below meth zc A ls C0 hin hK hA hl hw
  obtain ⟨hx, hb, hr, hlk, hml, hown, hts⟩ := C0
  obtain ⟨R, hRR⟩ : ∃ R : Room, R = rmL 1 0 0 := ⟨_, rfl⟩
  have hRf : R.frames = 1 := by rw [hRR]
  have hRl : R.locals = 64 * 1 := by rw [hRR]
  have hRc : R.cells = 0 := by rw [hRR]
  have hRs : R.slots = 0 := by rw [hRR]
  rw [← hRR]; clear hRR
  generalize hQ : MQ below _ _ zs _ _ A = Q
  generalize hAr : List.toArray _ = args at hts hQ ⊢
  replace hl : lv_has ls 1 [(0, .ref (am 0))] := hl
  obtain ⟨H, eH⟩ : ∃ H : Heap, H = zs.heap := ⟨_, rfl⟩
  obtain ⟨locs, eL⟩ : ∃ l0 : List Loc, l0 = [] := ⟨_, rfl⟩
  rw [← eH, ← eL] at hw ⊢; clear eH eL
  refine lv_aload_n hx hb d_M_message_0 rfl (lv_at hl 0 rfl) ?_
  refine lv_aload_n hx hb d_M_message_1 rfl (lv_at hl 0 rfl) ?_
  refine g_M_110 hx hb hts hown hK hw 0 rfl rfl d_M_message_2 ?_
  refine lv_bipush (v := nI 6) hx hb d_M_message_5 (by decide) ?_
  refine r_icmp_ne (tgt := 14) hx hb (by omega) (by omega) d_M_message_7 (by decide) (fun c_7 => ?_) (fun c_7 => ?_)
  · skip
    refine lv_iconst (v := nI 0) hx hb d_M_message_14 rfl ?_
    refine lv_iconst (v := nI 0) hx hb d_M_message_15 rfl ?_
    refine xV_i (rest := []) (As := [.int (nI 0), .int (nI 0)]) hx hb hml hown hts hK hA hw k_M_103 (c_M_throwing zl G (am 0) th (nI 0) (nI 0) (.int (nI n)) (.int (nI room)) (.int (nI Sx)) (.int (nI Kx)) (.int (nI rs.length)) (.ref (am 1)) (.ref (am 2)) (.ref (am 3)) (.ref (am 4)) (.ref (am 5)) (.ref (am 6)) (.ref (am 7)) (.ref (am 8)) (.int (nI pm.length)) (.int (nI E.length)) (.int (nI S.length)) (.int (nI md)) (.int (nI ag)) (.int (nI (deadN S S.length))) (.int (anF ov)) (.int bw) (.ref (am 9)) (.ref (am 10)) (.ref (am 11)) (.ref (am 12)) (.ref (am 13)) (.ref (am 14)) (.ref (am 15)) (.ref (am 16)) (.ref (am 17)) (.ref (am 18)) (zv 0) (zv 1)) ([0]) rfl rfl (fun _ => Nat.le_of_ble_eq_true rfl) 0 rfl rfl rfl rfl hl.1 (Nat.le_of_ble_eq_true rfl) ⟨(by omega), (by omega)⟩ ⟨(by omega), (by omega)⟩ d_M_message_16 (fun r u3 H locs hp hw1 => ?_)
    obtain ⟨rfl, rfl⟩ := hp
    refine W.cs (cells' := 0) (slots' := 0) rfl rfl ?_
    replace hw : WW G A zs ([oM (am 0) [.int (nI 0), .int (nI n), .int (nI room), .int (nI Sx), .int (nI Kx), .int (nI rs.length), .ref (am 1), .ref (am 2), .ref (am 3), .ref (am 4), .ref (am 5), .ref (am 6), .ref (am 7), .ref (am 8), .int (nI pm.length), .int (nI E.length), .int (nI S.length), .int (nI md), .int (nI ag), .int (nI (deadN S S.length)), .int (anF ov), .int bw, .ref (am 9), .ref (am 10), .ref (am 11), .ref (am 12), .ref (am 13), .ref (am 14), .ref (am 15), .ref (am 16), .ref (am 17), .ref (am 18), zv 0, zv 1], aI G (am 1) 40 (fa 1), aI G (am 2) 40 (fa 2), aI G (am 3) 40 (fa 3), aI G (am 4) 40 (fa 4), aI G (am 5) 160 (fa 5), aI G (am 6) 160 (fa 6), aZ G (am 7) 64 (fa 7), aI G (am 8) 96 (fa 8), aI G (am 9) 98304 (fa 9), aI G (am 10) 8192 (fa 10), aI G (am 11) 8192 (fa 11), aI G (am 12) 8192 (fa 12), aI G (am 13) 8192 (fa 13), aI G (am 14) 8192 (fa 14), aI G (am 15) 8192 (fa 15), aI G (am 16) 12 (fa 16), aI G (am 17) 12 (fa 17), aI G (am 18) 12 (fa 18)]) H locs := hw1
    refine r_if_eq (tgt := 24) hx hb (by omega) d_M_message_19 (by decide) (fun c_19 => ?_) (fun c_19 => ?_)
    · skip
      refine lv_aload_n hx hb d_M_message_24 rfl (lv_at hl 0 rfl) ?_
      refine xV_v (rest := []) (As := []) hx hb hml hown hts hK hA hw k_M_107 (c_M_forget zl G (am 0) _ _ _ _ _ _ _ _ _ _ _ _ _ _ _ _ _ _ _ _ _ _ _ _ _ _ _ _ _ _ _ _ _ _) ([0]) rfl rfl (fun _ => Nat.le_of_ble_eq_true rfl) 0 rfl rfl rfl rfl hl.1 (Nat.le_of_ble_eq_true rfl) ⟨(by omega), (by omega)⟩ ⟨(by omega), (by omega)⟩ d_M_message_25 (fun _ u H locs hp hw1 => ?_)
      refine W.cs (cells' := 0) (slots' := 0) rfl rfl ?_
      replace hw : WW G A zs ([oM (am 0) [.int (nI 0), .int (nI n), .int (nI room), .int (nI Sx), .int (nI Kx), .int (nI rs.length), .ref (am 1), .ref (am 2), .ref (am 3), .ref (am 4), .ref (am 5), .ref (am 6), .ref (am 7), .ref (am 8), .int (nI pm.length), .int (nI 0), .int (nI 0), .int (nI 0), .int (nI 0), .int (nI 0), .int (nI 0), .int (-1), .ref (am 9), .ref (am 10), .ref (am 11), .ref (am 12), .ref (am 13), .ref (am 14), .ref (am 15), .ref (am 16), .ref (am 17), .ref (am 18), zv 0, zv 1], aI G (am 1) 40 (fa 1), aI G (am 2) 40 (fa 2), aI G (am 3) 40 (fa 3), aI G (am 4) 40 (fa 4), aI G (am 5) 160 (fa 5), aI G (am 6) 160 (fa 6), aZ G (am 7) 64 (fa 7), aI G (am 8) 96 (fa 8), aI G (am 9) 98304 (fa 9), aI G (am 10) 8192 (fa 10), aI G (am 11) 8192 (fa 11), aI G (am 12) 8192 (fa 12), aI G (am 13) 8192 (fa 13), aI G (am 14) 8192 (fa 14), aI G (am 15) 8192 (fa 15), aI G (am 16) 12 (fa 16), aI G (am 17) 12 (fa 17), aI G (am 18) 12 (fa 18)]) H locs := hw1
      refine lv_aload_n hx hb d_M_message_28 rfl (lv_at hl 0 rfl) ?_
      refine lv_dup hx hb d_M_message_29 rfl ?_
      refine g_M_110 hx hb hts hown hK hw 0 rfl rfl d_M_message_30 ?_
      refine lv_iconst (v := nI 1) hx hb d_M_message_33 rfl ?_
      refine r_iaddN hx hb d_M_message_34 ?_
      refine p_M_110 hx hb hts hown hK hw 0 rfl (Nat.le_of_ble_eq_true rfl) d_M_message_35 (fun H locs hw1 => ?_)
      replace hw : WW G A zs ([oM (am 0) [.int (nI 0), .int (nI n), .int (nI room), .int (nI Sx), .int (nI (Kx + 1)), .int (nI rs.length), .ref (am 1), .ref (am 2), .ref (am 3), .ref (am 4), .ref (am 5), .ref (am 6), .ref (am 7), .ref (am 8), .int (nI pm.length), .int (nI 0), .int (nI 0), .int (nI 0), .int (nI 0), .int (nI 0), .int (nI 0), .int (-1), .ref (am 9), .ref (am 10), .ref (am 11), .ref (am 12), .ref (am 13), .ref (am 14), .ref (am 15), .ref (am 16), .ref (am 17), .ref (am 18), zv 0, zv 1], aI G (am 1) 40 (fa 1), aI G (am 2) 40 (fa 2), aI G (am 3) 40 (fa 3), aI G (am 4) 40 (fa 4), aI G (am 5) 160 (fa 5), aI G (am 6) 160 (fa 6), aZ G (am 7) 64 (fa 7), aI G (am 8) 96 (fa 8), aI G (am 9) 98304 (fa 9), aI G (am 10) 8192 (fa 10), aI G (am 11) 8192 (fa 11), aI G (am 12) 8192 (fa 12), aI G (am 13) 8192 (fa 13), aI G (am 14) 8192 (fa 14), aI G (am 15) 8192 (fa 15), aI G (am 16) 12 (fa 16), aI G (am 17) 12 (fa 17), aI G (am 18) 12 (fa 18)]) H locs := hw1
      refine lv_aload_n hx hb d_M_message_38 rfl (lv_at hl 0 rfl) ?_
      refine g_M_110 hx hb hts hown hK hw 0 rfl rfl d_M_message_39 ?_
      refine lv_iconst (v := nI 1) hx hb d_M_message_42 rfl ?_
      refine r_isubN hx hb (by omega) d_M_message_43 ?_
      refine r_eq (show nI ((Kx + 1) - 1) = nI Kx from congrArg nI (by omega)) ?_
      exact r_ret hQ (r_iret () hx hb hr hlk hw rfl (by omega) (by omega) d_M_message_44)
    · skip
      exact absurd c_19 (by decide)
  · skip
    exfalso; omega
set_option maxHeartbeats 4000000 in
set_option maxRecDepth 100000 in
theorem c_M_messageX (zl : Launch) (G : GG) (am : Nat → Nat) (fa : Nat → Nat → Int32) (zv : Nat → Value) (th bw : Int32) (n room Sx Kx : Nat) (ps pm : List (List Nat)) (B : Nat → Bool) (rs : List Rl) (E : List Ent) (S : List Nat) (md ag ov : Nat) (hlt : Kx = 6) : Ctr (S := Unit) vI zl y_M_message b_M_message 1 (Option.some Jvm.ClassFile.FieldType.int) 1 0 0 G [.ref (am 0)] ([oM (am 0) [.int th, .int (nI n), .int (nI room), .int (nI Sx), .int (nI Kx), .int (nI rs.length), .ref (am 1), .ref (am 2), .ref (am 3), .ref (am 4), .ref (am 5), .ref (am 6), .ref (am 7), .ref (am 8), .int (nI pm.length), .int (nI E.length), .int (nI S.length), .int (nI md), .int (nI ag), .int (nI (deadN S S.length)), .int (anF ov), .int bw, .ref (am 9), .ref (am 10), .ref (am 11), .ref (am 12), .ref (am 13), .ref (am 14), .ref (am 15), .ref (am 16), .ref (am 17), .ref (am 18), zv 0, zv 1], aI G (am 1) 40 (fa 1), aI G (am 2) 40 (fa 2), aI G (am 3) 40 (fa 3), aI G (am 4) 40 (fa 4), aI G (am 5) 160 (fa 5), aI G (am 6) 160 (fa 6), aZ G (am 7) 64 (fa 7), aI G (am 8) 96 (fa 8), aI G (am 9) 98304 (fa 9), aI G (am 10) 8192 (fa 10), aI G (am 11) 8192 (fa 11), aI G (am 12) 8192 (fa 12), aI G (am 13) 8192 (fa 13), aI G (am 14) 8192 (fa 14), aI G (am 15) 8192 (fa 15), aI G (am 16) 12 (fa 16), aI G (am 17) 12 (fa 17), aI G (am 18) 12 (fa 18)]) (fun _ _ => True) (fun _ => [oM (am 0) [.int (nI 1), .int (nI n), .int (nI room), .int (nI Sx), .int (nI Kx), .int (nI rs.length), .ref (am 1), .ref (am 2), .ref (am 3), .ref (am 4), .ref (am 5), .ref (am 6), .ref (am 7), .ref (am 8), .int (nI pm.length), .int (nI E.length), .int (nI S.length), .int (nI md), .int (nI ag), .int (nI (deadN S S.length)), .int (anF ov), .int bw, .ref (am 9), .ref (am 10), .ref (am 11), .ref (am 12), .ref (am 13), .ref (am 14), .ref (am 15), .ref (am 16), .ref (am 17), .ref (am 18), zv 0, zv 1], aI G (am 1) 40 (fa 1), aI G (am 2) 40 (fa 2), aI G (am 3) 40 (fa 3), aI G (am 4) 40 (fa 4), aI G (am 5) 160 (fa 5), aI G (am 6) 160 (fa 6), aZ G (am 7) 64 (fa 7), aI G (am 8) 96 (fa 8), aI G (am 9) 98304 (fa 9), aI G (am 10) 8192 (fa 10), aI G (am 11) 8192 (fa 11), aI G (am 12) 8192 (fa 12), aI G (am 13) 8192 (fa 13), aI G (am 14) 8192 (fa 14), aI G (am 15) 8192 (fa 15), aI G (am 16) 12 (fa 16), aI G (am 17) 12 (fa 17), aI G (am 18) 12 (fa 18)]) := by
  refine Ctr.start (by decide) (Nat.le_of_ble_eq_true rfl) ?_
  intro zp ze zs zm below meth zc A ls C0 hin hK hA hl hw
  obtain ⟨hx, hb, hr, hlk, hml, hown, hts⟩ := C0
  obtain ⟨R, hRR⟩ : ∃ R : Room, R = rmL 1 0 0 := ⟨_, rfl⟩
  have hRf : R.frames = 1 := by rw [hRR]
  have hRl : R.locals = 64 * 1 := by rw [hRR]
  have hRc : R.cells = 0 := by rw [hRR]
  have hRs : R.slots = 0 := by rw [hRR]
  rw [← hRR]; clear hRR
  generalize hQ : MQ below _ _ zs _ _ A = Q
  generalize hAr : List.toArray _ = args at hts hQ ⊢
  replace hl : lv_has ls 1 [(0, .ref (am 0))] := hl
  obtain ⟨H, eH⟩ : ∃ H : Heap, H = zs.heap := ⟨_, rfl⟩
  obtain ⟨locs, eL⟩ : ∃ l0 : List Loc, l0 = [] := ⟨_, rfl⟩
  rw [← eH, ← eL] at hw ⊢; clear eH eL
  refine lv_aload_n hx hb d_M_message_0 rfl (lv_at hl 0 rfl) ?_
  refine lv_aload_n hx hb d_M_message_1 rfl (lv_at hl 0 rfl) ?_
  refine g_M_110 hx hb hts hown hK hw 0 rfl rfl d_M_message_2 ?_
  refine lv_bipush (v := nI 6) hx hb d_M_message_5 (by decide) ?_
  refine r_icmp_ne (tgt := 14) hx hb (by omega) (by omega) d_M_message_7 (by decide) (fun c_7 => ?_) (fun c_7 => ?_)
  · skip
    exfalso; omega
  · skip
    refine lv_iconst (v := nI 1) hx hb d_M_message_10 rfl ?_
    refine lv_goto (tgt := 15) hx hb d_M_message_11 (by decide) ?_
    refine lv_iconst (v := nI 0) hx hb d_M_message_15 rfl ?_
    refine xV_i (rest := []) (As := [.int (nI 1), .int (nI 0)]) hx hb hml hown hts hK hA hw k_M_103 (c_M_throwing zl G (am 0) th (nI 1) (nI 0) (.int (nI n)) (.int (nI room)) (.int (nI Sx)) (.int (nI Kx)) (.int (nI rs.length)) (.ref (am 1)) (.ref (am 2)) (.ref (am 3)) (.ref (am 4)) (.ref (am 5)) (.ref (am 6)) (.ref (am 7)) (.ref (am 8)) (.int (nI pm.length)) (.int (nI E.length)) (.int (nI S.length)) (.int (nI md)) (.int (nI ag)) (.int (nI (deadN S S.length))) (.int (anF ov)) (.int bw) (.ref (am 9)) (.ref (am 10)) (.ref (am 11)) (.ref (am 12)) (.ref (am 13)) (.ref (am 14)) (.ref (am 15)) (.ref (am 16)) (.ref (am 17)) (.ref (am 18)) (zv 0) (zv 1)) ([0]) rfl rfl (fun _ => Nat.le_of_ble_eq_true rfl) 0 rfl rfl rfl rfl hl.1 (Nat.le_of_ble_eq_true rfl) ⟨(by omega), (by omega)⟩ ⟨(by omega), (by omega)⟩ d_M_message_16 (fun r u3 H locs hp hw1 => ?_)
    obtain ⟨rfl, rfl⟩ := hp
    refine W.cs (cells' := 0) (slots' := 0) rfl rfl ?_
    replace hw : WW G A zs ([oM (am 0) [.int (nI 1), .int (nI n), .int (nI room), .int (nI Sx), .int (nI Kx), .int (nI rs.length), .ref (am 1), .ref (am 2), .ref (am 3), .ref (am 4), .ref (am 5), .ref (am 6), .ref (am 7), .ref (am 8), .int (nI pm.length), .int (nI E.length), .int (nI S.length), .int (nI md), .int (nI ag), .int (nI (deadN S S.length)), .int (anF ov), .int bw, .ref (am 9), .ref (am 10), .ref (am 11), .ref (am 12), .ref (am 13), .ref (am 14), .ref (am 15), .ref (am 16), .ref (am 17), .ref (am 18), zv 0, zv 1], aI G (am 1) 40 (fa 1), aI G (am 2) 40 (fa 2), aI G (am 3) 40 (fa 3), aI G (am 4) 40 (fa 4), aI G (am 5) 160 (fa 5), aI G (am 6) 160 (fa 6), aZ G (am 7) 64 (fa 7), aI G (am 8) 96 (fa 8), aI G (am 9) 98304 (fa 9), aI G (am 10) 8192 (fa 10), aI G (am 11) 8192 (fa 11), aI G (am 12) 8192 (fa 12), aI G (am 13) 8192 (fa 13), aI G (am 14) 8192 (fa 14), aI G (am 15) 8192 (fa 15), aI G (am 16) 12 (fa 16), aI G (am 17) 12 (fa 17), aI G (am 18) 12 (fa 18)]) H locs := hw1
    refine r_if_eq (tgt := 24) hx hb (by omega) d_M_message_19 (by decide) (fun c_19 => ?_) (fun c_19 => ?_)
    · skip
      exact absurd c_19 (by decide)
    · skip
      refine lv_iconst (v := nI 0) hx hb d_M_message_22 rfl ?_
      exact r_ret hQ (r_iret () hx hb hr hlk hw trivial (by omega) (by omega) d_M_message_23)
set_option maxHeartbeats 4000000 in
set_option maxRecDepth 100000 in
theorem c_M_rule (zl : Launch) (G : GG) (am : Nat → Nat) (fa : Nat → Nat → Int32) (zv : Nat → Value) (th bw : Int32) (n room Sx Kx : Nat) (ps pm : List (List Nat)) (B : Nat → Bool) (rs : List Rl) (E : List Ent) (S : List Nat) (md ag ov : Nat) (a b : Nat) (ev : Option Nat) (hMC : MC n ps pm B fa) (hrl : MRl rs fa) (hlt : rs.length < 40) (hS8 : Sx ≤ 8) (hK6 : Kx ≤ 6) (ha : a < Sx) (hb9 : b < Sx) (hev : ∀ k, ev = some k → k < Kx) : Ctr (S := Nat → Nat → Int32) vI zl y_M_rule b_M_rule 4 (Option.some Jvm.ClassFile.FieldType.int) 1 0 0 G [.ref (am 0), .int (nI a), .int (evI ev), .int (nI b)] ([oM (am 0) [.int th, .int (nI n), .int (nI room), .int (nI Sx), .int (nI Kx), .int (nI rs.length), .ref (am 1), .ref (am 2), .ref (am 3), .ref (am 4), .ref (am 5), .ref (am 6), .ref (am 7), .ref (am 8), .int (nI pm.length), .int (nI E.length), .int (nI S.length), .int (nI md), .int (nI ag), .int (nI (deadN S S.length)), .int (anF ov), .int bw, .ref (am 9), .ref (am 10), .ref (am 11), .ref (am 12), .ref (am 13), .ref (am 14), .ref (am 15), .ref (am 16), .ref (am 17), .ref (am 18), zv 0, zv 1], aI G (am 1) 40 (fa 1), aI G (am 2) 40 (fa 2), aI G (am 3) 40 (fa 3), aI G (am 4) 40 (fa 4), aI G (am 5) 160 (fa 5), aI G (am 6) 160 (fa 6), aZ G (am 7) 64 (fa 7), aI G (am 8) 96 (fa 8), aI G (am 9) 98304 (fa 9), aI G (am 10) 8192 (fa 10), aI G (am 11) 8192 (fa 11), aI G (am 12) 8192 (fa 12), aI G (am 13) 8192 (fa 13), aI G (am 14) 8192 (fa 14), aI G (am 15) 8192 (fa 15), aI G (am 16) 12 (fa 16), aI G (am 17) 12 (fa 17), aI G (am 18) 12 (fa 18)]) (fun r u => r = nI rs.length ∧ MC n ps pm B u ∧ MRl (rs ++ [(a, ev, b, [])]) u) (fun u => [oM (am 0) [.int (nI 0), .int (nI n), .int (nI room), .int (nI Sx), .int (nI Kx), .int (nI ((rs ++ [(a, ev, b, [])]).length)), .ref (am 1), .ref (am 2), .ref (am 3), .ref (am 4), .ref (am 5), .ref (am 6), .ref (am 7), .ref (am 8), .int (nI pm.length), .int (nI (([] : List Ent).length)), .int (nI (([] : List Nat).length)), .int (nI 0), .int (nI 0), .int (nI (deadN ([] : List Nat) ([] : List Nat).length)), .int (anF 0), .int (-1), .ref (am 9), .ref (am 10), .ref (am 11), .ref (am 12), .ref (am 13), .ref (am 14), .ref (am 15), .ref (am 16), .ref (am 17), .ref (am 18), zv 0, zv 1], aI G (am 1) 40 (u 1), aI G (am 2) 40 (u 2), aI G (am 3) 40 (u 3), aI G (am 4) 40 (u 4), aI G (am 5) 160 (u 5), aI G (am 6) 160 (u 6), aZ G (am 7) 64 (u 7), aI G (am 8) 96 (u 8), aI G (am 9) 98304 (u 9), aI G (am 10) 8192 (u 10), aI G (am 11) 8192 (u 11), aI G (am 12) 8192 (u 12), aI G (am 13) 8192 (u 13), aI G (am 14) 8192 (u 14), aI G (am 15) 8192 (u 15), aI G (am 16) 12 (u 16), aI G (am 17) 12 (u 17), aI G (am 18) 12 (u 18)]) := by
  refine Ctr.start (by decide) (Nat.le_of_ble_eq_true rfl) ?_
  intro zp ze zs zm below meth zc A ls C0 hin hK hA hl hw
  obtain ⟨hx, hb, hr, hlk, hml, hown, hts⟩ := C0
  obtain ⟨R, hRR⟩ : ∃ R : Room, R = rmL 1 0 0 := ⟨_, rfl⟩
  have hRf : R.frames = 1 := by rw [hRR]
  have hRl : R.locals = 64 * 1 := by rw [hRR]
  have hRc : R.cells = 0 := by rw [hRR]
  have hRs : R.slots = 0 := by rw [hRR]
  rw [← hRR]; clear hRR
  generalize hQ : MQ below _ _ zs _ _ A = Q
  generalize hAr : List.toArray _ = args at hts hQ ⊢
  replace hl : lv_has ls 4 [(0, .ref (am 0)), (1, .int (nI a)), (2, .int (evI ev)), (3, .int (nI b))] := hl
  obtain ⟨H, eH⟩ : ∃ H : Heap, H = zs.heap := ⟨_, rfl⟩
  obtain ⟨locs, eL⟩ : ∃ l0 : List Loc, l0 = [] := ⟨_, rfl⟩
  rw [← eH, ← eL] at hw ⊢; clear eH eL
  have hrll := hrl.1
  refine lv_aload_n hx hb d_M_rule_0 rfl (lv_at hl 0 rfl) ?_
  refine lv_iload_n hx hb d_M_rule_1 rfl (lv_at hl 1 rfl) ?_
  refine lv_aload_n hx hb d_M_rule_2 rfl (lv_at hl 0 rfl) ?_
  refine g_M_7 hx hb hts hown hK hw 0 rfl rfl d_M_rule_3 ?_
  refine xS_i (rest := [.ref (am 0)]) (As := [.int (nI a), .int (nI Sx)]) hx hb hml hown hts hK hA hw k_M_113 (c_M_isOf zl G (nI a) (nI Sx)) ([]) rfl rfl (fun _ => Nat.le_of_ble_eq_true rfl) rfl rfl hl.1 (Nat.le_of_ble_eq_true rfl) ⟨(by omega), (by omega)⟩ ⟨(by omega), (by omega)⟩ d_M_rule_6 (fun r u H locs hp hw1 => ?_)
  rw [if_pos ⟨nI_pos' (by omega), nI_lt (by omega) (by omega)⟩] at hp
  subst hp
  refine W.cs (cells' := 0) (slots' := 0) rfl rfl ?_
  replace hw : WW G A zs ([oM (am 0) [.int th, .int (nI n), .int (nI room), .int (nI Sx), .int (nI Kx), .int (nI rs.length), .ref (am 1), .ref (am 2), .ref (am 3), .ref (am 4), .ref (am 5), .ref (am 6), .ref (am 7), .ref (am 8), .int (nI pm.length), .int (nI E.length), .int (nI S.length), .int (nI md), .int (nI ag), .int (nI (deadN S S.length)), .int (anF ov), .int bw, .ref (am 9), .ref (am 10), .ref (am 11), .ref (am 12), .ref (am 13), .ref (am 14), .ref (am 15), .ref (am 16), .ref (am 17), .ref (am 18), zv 0, zv 1], aI G (am 1) 40 (fa 1), aI G (am 2) 40 (fa 2), aI G (am 3) 40 (fa 3), aI G (am 4) 40 (fa 4), aI G (am 5) 160 (fa 5), aI G (am 6) 160 (fa 6), aZ G (am 7) 64 (fa 7), aI G (am 8) 96 (fa 8), aI G (am 9) 98304 (fa 9), aI G (am 10) 8192 (fa 10), aI G (am 11) 8192 (fa 11), aI G (am 12) 8192 (fa 12), aI G (am 13) 8192 (fa 13), aI G (am 14) 8192 (fa 14), aI G (am 15) 8192 (fa 15), aI G (am 16) 12 (fa 16), aI G (am 17) 12 (fa 17), aI G (am 18) 12 (fa 18)]) H locs := hw1
  refine r_if_eq (tgt := 39) hx hb (by omega) d_M_rule_9 (by decide) (fun c_9 => ?_) (fun c_9 => ?_)
  · skip
    exact absurd c_9 (by decide)
  · skip
    refine lv_iload_n hx hb d_M_rule_12 rfl (lv_at hl 3 rfl) ?_
    refine lv_aload_n hx hb d_M_rule_13 rfl (lv_at hl 0 rfl) ?_
    refine g_M_7 hx hb hts hown hK hw 0 rfl rfl d_M_rule_14 ?_
    refine xS_i (rest := [.ref (am 0)]) (As := [.int (nI b), .int (nI Sx)]) hx hb hml hown hts hK hA hw k_M_113 (c_M_isOf zl G (nI b) (nI Sx)) ([]) rfl rfl (fun _ => Nat.le_of_ble_eq_true rfl) rfl rfl hl.1 (Nat.le_of_ble_eq_true rfl) ⟨(by omega), (by omega)⟩ ⟨(by omega), (by omega)⟩ d_M_rule_17 (fun r u H locs hp hw1 => ?_)
    rw [if_pos ⟨nI_pos' (by omega), nI_lt (by omega) (by omega)⟩] at hp
    subst hp
    refine W.cs (cells' := 0) (slots' := 0) rfl rfl ?_
    replace hw : WW G A zs ([oM (am 0) [.int th, .int (nI n), .int (nI room), .int (nI Sx), .int (nI Kx), .int (nI rs.length), .ref (am 1), .ref (am 2), .ref (am 3), .ref (am 4), .ref (am 5), .ref (am 6), .ref (am 7), .ref (am 8), .int (nI pm.length), .int (nI E.length), .int (nI S.length), .int (nI md), .int (nI ag), .int (nI (deadN S S.length)), .int (anF ov), .int bw, .ref (am 9), .ref (am 10), .ref (am 11), .ref (am 12), .ref (am 13), .ref (am 14), .ref (am 15), .ref (am 16), .ref (am 17), .ref (am 18), zv 0, zv 1], aI G (am 1) 40 (fa 1), aI G (am 2) 40 (fa 2), aI G (am 3) 40 (fa 3), aI G (am 4) 40 (fa 4), aI G (am 5) 160 (fa 5), aI G (am 6) 160 (fa 6), aZ G (am 7) 64 (fa 7), aI G (am 8) 96 (fa 8), aI G (am 9) 98304 (fa 9), aI G (am 10) 8192 (fa 10), aI G (am 11) 8192 (fa 11), aI G (am 12) 8192 (fa 12), aI G (am 13) 8192 (fa 13), aI G (am 14) 8192 (fa 14), aI G (am 15) 8192 (fa 15), aI G (am 16) 12 (fa 16), aI G (am 17) 12 (fa 17), aI G (am 18) 12 (fa 18)]) H locs := hw1
    refine r_if_eq (tgt := 39) hx hb (by omega) d_M_rule_20 (by decide) (fun c_20 => ?_) (fun c_20 => ?_)
    · skip
      exact absurd c_20 (by decide)
    · skip
      refine lv_iload_n hx hb d_M_rule_23 rfl (lv_at hl 2 rfl) ?_
      refine lv_iconst (v := -1) hx hb d_M_rule_24 (by decide) ?_
      refine lv_icmp_eq (tgt := 43) hx hb d_M_rule_25 (by decide) (fun c_25 => ?_) (fun c_25 => ?_)
      · skip
        refine lv_iconst (v := nI 0) hx hb d_M_rule_43 rfl ?_
        refine lv_aload_n hx hb d_M_rule_44 rfl (lv_at hl 0 rfl) ?_
        refine g_M_117 hx hb hts hown hK hw 0 rfl rfl d_M_rule_45 ?_
        refine lv_bipush (v := nI 40) hx hb d_M_rule_48 (by decide) ?_
        refine r_icmp_ne (tgt := 57) hx hb (by omega) (by omega) d_M_rule_50 (by decide) (fun c_50 => ?_) (fun c_50 => ?_)
        · skip
          refine lv_iconst (v := nI 0) hx hb d_M_rule_57 rfl ?_
          refine xV_i (rest := []) (As := [.int (nI 0), .int (nI 0)]) hx hb hml hown hts hK hA hw k_M_103 (c_M_throwing zl G (am 0) th (nI 0) (nI 0) (.int (nI n)) (.int (nI room)) (.int (nI Sx)) (.int (nI Kx)) (.int (nI rs.length)) (.ref (am 1)) (.ref (am 2)) (.ref (am 3)) (.ref (am 4)) (.ref (am 5)) (.ref (am 6)) (.ref (am 7)) (.ref (am 8)) (.int (nI pm.length)) (.int (nI E.length)) (.int (nI S.length)) (.int (nI md)) (.int (nI ag)) (.int (nI (deadN S S.length))) (.int (anF ov)) (.int bw) (.ref (am 9)) (.ref (am 10)) (.ref (am 11)) (.ref (am 12)) (.ref (am 13)) (.ref (am 14)) (.ref (am 15)) (.ref (am 16)) (.ref (am 17)) (.ref (am 18)) (zv 0) (zv 1)) ([0]) rfl rfl (fun _ => Nat.le_of_ble_eq_true rfl) 0 rfl rfl rfl rfl hl.1 (Nat.le_of_ble_eq_true rfl) ⟨(by omega), (by omega)⟩ ⟨(by omega), (by omega)⟩ d_M_rule_58 (fun r u3 H locs hp hw1 => ?_)
          obtain ⟨rfl, rfl⟩ := hp
          refine W.cs (cells' := 0) (slots' := 0) rfl rfl ?_
          replace hw : WW G A zs ([oM (am 0) [.int (nI 0), .int (nI n), .int (nI room), .int (nI Sx), .int (nI Kx), .int (nI rs.length), .ref (am 1), .ref (am 2), .ref (am 3), .ref (am 4), .ref (am 5), .ref (am 6), .ref (am 7), .ref (am 8), .int (nI pm.length), .int (nI E.length), .int (nI S.length), .int (nI md), .int (nI ag), .int (nI (deadN S S.length)), .int (anF ov), .int bw, .ref (am 9), .ref (am 10), .ref (am 11), .ref (am 12), .ref (am 13), .ref (am 14), .ref (am 15), .ref (am 16), .ref (am 17), .ref (am 18), zv 0, zv 1], aI G (am 1) 40 (fa 1), aI G (am 2) 40 (fa 2), aI G (am 3) 40 (fa 3), aI G (am 4) 40 (fa 4), aI G (am 5) 160 (fa 5), aI G (am 6) 160 (fa 6), aZ G (am 7) 64 (fa 7), aI G (am 8) 96 (fa 8), aI G (am 9) 98304 (fa 9), aI G (am 10) 8192 (fa 10), aI G (am 11) 8192 (fa 11), aI G (am 12) 8192 (fa 12), aI G (am 13) 8192 (fa 13), aI G (am 14) 8192 (fa 14), aI G (am 15) 8192 (fa 15), aI G (am 16) 12 (fa 16), aI G (am 17) 12 (fa 17), aI G (am 18) 12 (fa 18)]) H locs := hw1
          refine r_if_eq (tgt := 66) hx hb (by omega) d_M_rule_61 (by decide) (fun c_61 => ?_) (fun c_61 => ?_)
          · skip
            refine lv_aload_n hx hb d_M_rule_66 rfl (lv_at hl 0 rfl) ?_
            refine xV_v (rest := []) (As := []) hx hb hml hown hts hK hA hw k_M_107 (c_M_forget zl G (am 0) _ _ _ _ _ _ _ _ _ _ _ _ _ _ _ _ _ _ _ _ _ _ _ _ _ _ _ _ _ _ _ _ _ _) ([0]) rfl rfl (fun _ => Nat.le_of_ble_eq_true rfl) 0 rfl rfl rfl rfl hl.1 (Nat.le_of_ble_eq_true rfl) ⟨(by omega), (by omega)⟩ ⟨(by omega), (by omega)⟩ d_M_rule_67 (fun _ u H locs hp hw1 => ?_)
            refine W.cs (cells' := 0) (slots' := 0) rfl rfl ?_
            replace hw : WW G A zs ([oM (am 0) [.int (nI 0), .int (nI n), .int (nI room), .int (nI Sx), .int (nI Kx), .int (nI rs.length), .ref (am 1), .ref (am 2), .ref (am 3), .ref (am 4), .ref (am 5), .ref (am 6), .ref (am 7), .ref (am 8), .int (nI pm.length), .int (nI 0), .int (nI 0), .int (nI 0), .int (nI 0), .int (nI 0), .int (nI 0), .int (-1), .ref (am 9), .ref (am 10), .ref (am 11), .ref (am 12), .ref (am 13), .ref (am 14), .ref (am 15), .ref (am 16), .ref (am 17), .ref (am 18), zv 0, zv 1], aI G (am 1) 40 (fa 1), aI G (am 2) 40 (fa 2), aI G (am 3) 40 (fa 3), aI G (am 4) 40 (fa 4), aI G (am 5) 160 (fa 5), aI G (am 6) 160 (fa 6), aZ G (am 7) 64 (fa 7), aI G (am 8) 96 (fa 8), aI G (am 9) 98304 (fa 9), aI G (am 10) 8192 (fa 10), aI G (am 11) 8192 (fa 11), aI G (am 12) 8192 (fa 12), aI G (am 13) 8192 (fa 13), aI G (am 14) 8192 (fa 14), aI G (am 15) 8192 (fa 15), aI G (am 16) 12 (fa 16), aI G (am 17) 12 (fa 17), aI G (am 18) 12 (fa 18)]) H locs := hw1
            refine lv_aload_n hx hb d_M_rule_70 rfl (lv_at hl 0 rfl) ?_
            refine g_M_13 hx hb hts hown hK hw 0 rfl rfl d_M_rule_71 ?_
            refine lv_aload_n hx hb d_M_rule_74 rfl (lv_at hl 0 rfl) ?_
            refine g_M_117 hx hb hts hown hK hw 0 rfl rfl d_M_rule_75 ?_
            refine lv_iload_n hx hb d_M_rule_78 rfl (lv_at hl 1 rfl) ?_
            refine r_iast hx hb hK hw 1 rfl (by omega) (by omega) d_M_rule_79 (fun H locs hw1 => ?_)
            replace hw : WW G A zs ([oM (am 0) [.int (nI 0), .int (nI n), .int (nI room), .int (nI Sx), .int (nI Kx), .int (nI rs.length), .ref (am 1), .ref (am 2), .ref (am 3), .ref (am 4), .ref (am 5), .ref (am 6), .ref (am 7), .ref (am 8), .int (nI pm.length), .int (nI 0), .int (nI 0), .int (nI 0), .int (nI 0), .int (nI 0), .int (nI 0), .int (-1), .ref (am 9), .ref (am 10), .ref (am 11), .ref (am 12), .ref (am 13), .ref (am 14), .ref (am 15), .ref (am 16), .ref (am 17), .ref (am 18), zv 0, zv 1], aI G (am 1) 40 (upd (fa 1) rs.length (nI a)), aI G (am 2) 40 (fa 2), aI G (am 3) 40 (fa 3), aI G (am 4) 40 (fa 4), aI G (am 5) 160 (fa 5), aI G (am 6) 160 (fa 6), aZ G (am 7) 64 (fa 7), aI G (am 8) 96 (fa 8), aI G (am 9) 98304 (fa 9), aI G (am 10) 8192 (fa 10), aI G (am 11) 8192 (fa 11), aI G (am 12) 8192 (fa 12), aI G (am 13) 8192 (fa 13), aI G (am 14) 8192 (fa 14), aI G (am 15) 8192 (fa 15), aI G (am 16) 12 (fa 16), aI G (am 17) 12 (fa 17), aI G (am 18) 12 (fa 18)]) H locs := hw1
            refine lv_aload_n hx hb d_M_rule_80 rfl (lv_at hl 0 rfl) ?_
            refine g_M_17 hx hb hts hown hK hw 0 rfl rfl d_M_rule_81 ?_
            refine lv_aload_n hx hb d_M_rule_84 rfl (lv_at hl 0 rfl) ?_
            refine g_M_117 hx hb hts hown hK hw 0 rfl rfl d_M_rule_85 ?_
            refine lv_iload_n hx hb d_M_rule_88 rfl (lv_at hl 2 rfl) ?_
            refine r_iast hx hb hK hw 2 rfl (by omega) (by omega) d_M_rule_89 (fun H locs hw1 => ?_)
            replace hw : WW G A zs ([oM (am 0) [.int (nI 0), .int (nI n), .int (nI room), .int (nI Sx), .int (nI Kx), .int (nI rs.length), .ref (am 1), .ref (am 2), .ref (am 3), .ref (am 4), .ref (am 5), .ref (am 6), .ref (am 7), .ref (am 8), .int (nI pm.length), .int (nI 0), .int (nI 0), .int (nI 0), .int (nI 0), .int (nI 0), .int (nI 0), .int (-1), .ref (am 9), .ref (am 10), .ref (am 11), .ref (am 12), .ref (am 13), .ref (am 14), .ref (am 15), .ref (am 16), .ref (am 17), .ref (am 18), zv 0, zv 1], aI G (am 1) 40 (upd (fa 1) rs.length (nI a)), aI G (am 2) 40 (upd (fa 2) rs.length (evI ev)), aI G (am 3) 40 (fa 3), aI G (am 4) 40 (fa 4), aI G (am 5) 160 (fa 5), aI G (am 6) 160 (fa 6), aZ G (am 7) 64 (fa 7), aI G (am 8) 96 (fa 8), aI G (am 9) 98304 (fa 9), aI G (am 10) 8192 (fa 10), aI G (am 11) 8192 (fa 11), aI G (am 12) 8192 (fa 12), aI G (am 13) 8192 (fa 13), aI G (am 14) 8192 (fa 14), aI G (am 15) 8192 (fa 15), aI G (am 16) 12 (fa 16), aI G (am 17) 12 (fa 17), aI G (am 18) 12 (fa 18)]) H locs := hw1
            refine lv_aload_n hx hb d_M_rule_90 rfl (lv_at hl 0 rfl) ?_
            refine g_M_20 hx hb hts hown hK hw 0 rfl rfl d_M_rule_91 ?_
            refine lv_aload_n hx hb d_M_rule_94 rfl (lv_at hl 0 rfl) ?_
            refine g_M_117 hx hb hts hown hK hw 0 rfl rfl d_M_rule_95 ?_
            refine lv_iload_n hx hb d_M_rule_98 rfl (lv_at hl 3 rfl) ?_
            refine r_iast hx hb hK hw 3 rfl (by omega) (by omega) d_M_rule_99 (fun H locs hw1 => ?_)
            replace hw : WW G A zs ([oM (am 0) [.int (nI 0), .int (nI n), .int (nI room), .int (nI Sx), .int (nI Kx), .int (nI rs.length), .ref (am 1), .ref (am 2), .ref (am 3), .ref (am 4), .ref (am 5), .ref (am 6), .ref (am 7), .ref (am 8), .int (nI pm.length), .int (nI 0), .int (nI 0), .int (nI 0), .int (nI 0), .int (nI 0), .int (nI 0), .int (-1), .ref (am 9), .ref (am 10), .ref (am 11), .ref (am 12), .ref (am 13), .ref (am 14), .ref (am 15), .ref (am 16), .ref (am 17), .ref (am 18), zv 0, zv 1], aI G (am 1) 40 (upd (fa 1) rs.length (nI a)), aI G (am 2) 40 (upd (fa 2) rs.length (evI ev)), aI G (am 3) 40 (upd (fa 3) rs.length (nI b)), aI G (am 4) 40 (fa 4), aI G (am 5) 160 (fa 5), aI G (am 6) 160 (fa 6), aZ G (am 7) 64 (fa 7), aI G (am 8) 96 (fa 8), aI G (am 9) 98304 (fa 9), aI G (am 10) 8192 (fa 10), aI G (am 11) 8192 (fa 11), aI G (am 12) 8192 (fa 12), aI G (am 13) 8192 (fa 13), aI G (am 14) 8192 (fa 14), aI G (am 15) 8192 (fa 15), aI G (am 16) 12 (fa 16), aI G (am 17) 12 (fa 17), aI G (am 18) 12 (fa 18)]) H locs := hw1
            refine lv_aload_n hx hb d_M_rule_100 rfl (lv_at hl 0 rfl) ?_
            refine g_M_23 hx hb hts hown hK hw 0 rfl rfl d_M_rule_101 ?_
            refine lv_aload_n hx hb d_M_rule_104 rfl (lv_at hl 0 rfl) ?_
            refine g_M_117 hx hb hts hown hK hw 0 rfl rfl d_M_rule_105 ?_
            refine lv_iconst (v := nI 0) hx hb d_M_rule_108 rfl ?_
            refine r_iast hx hb hK hw 4 rfl (by omega) (by omega) d_M_rule_109 (fun H locs hw1 => ?_)
            replace hw : WW G A zs ([oM (am 0) [.int (nI 0), .int (nI n), .int (nI room), .int (nI Sx), .int (nI Kx), .int (nI rs.length), .ref (am 1), .ref (am 2), .ref (am 3), .ref (am 4), .ref (am 5), .ref (am 6), .ref (am 7), .ref (am 8), .int (nI pm.length), .int (nI 0), .int (nI 0), .int (nI 0), .int (nI 0), .int (nI 0), .int (nI 0), .int (-1), .ref (am 9), .ref (am 10), .ref (am 11), .ref (am 12), .ref (am 13), .ref (am 14), .ref (am 15), .ref (am 16), .ref (am 17), .ref (am 18), zv 0, zv 1], aI G (am 1) 40 (upd (fa 1) rs.length (nI a)), aI G (am 2) 40 (upd (fa 2) rs.length (evI ev)), aI G (am 3) 40 (upd (fa 3) rs.length (nI b)), aI G (am 4) 40 (upd (fa 4) rs.length (nI 0)), aI G (am 5) 160 (fa 5), aI G (am 6) 160 (fa 6), aZ G (am 7) 64 (fa 7), aI G (am 8) 96 (fa 8), aI G (am 9) 98304 (fa 9), aI G (am 10) 8192 (fa 10), aI G (am 11) 8192 (fa 11), aI G (am 12) 8192 (fa 12), aI G (am 13) 8192 (fa 13), aI G (am 14) 8192 (fa 14), aI G (am 15) 8192 (fa 15), aI G (am 16) 12 (fa 16), aI G (am 17) 12 (fa 17), aI G (am 18) 12 (fa 18)]) H locs := hw1
            refine lv_aload_n hx hb d_M_rule_110 rfl (lv_at hl 0 rfl) ?_
            refine lv_dup hx hb d_M_rule_111 rfl ?_
            refine g_M_117 hx hb hts hown hK hw 0 rfl rfl d_M_rule_112 ?_
            refine lv_iconst (v := nI 1) hx hb d_M_rule_115 rfl ?_
            refine r_iaddN hx hb d_M_rule_116 ?_
            refine r_eq (show nI (rs.length + 1) = nI ((rs ++ [(a, ev, b, [])]).length) from congrArg nI (by rw [List.length_append]; rfl)) ?_
            refine p_M_117 hx hb hts hown hK hw 0 rfl (Nat.le_of_ble_eq_true rfl) d_M_rule_117 (fun H locs hw1 => ?_)
            replace hw : WW G A zs ([oM (am 0) [.int (nI 0), .int (nI n), .int (nI room), .int (nI Sx), .int (nI Kx), .int (nI ((rs ++ [(a, ev, b, [])]).length)), .ref (am 1), .ref (am 2), .ref (am 3), .ref (am 4), .ref (am 5), .ref (am 6), .ref (am 7), .ref (am 8), .int (nI pm.length), .int (nI 0), .int (nI 0), .int (nI 0), .int (nI 0), .int (nI 0), .int (nI 0), .int (-1), .ref (am 9), .ref (am 10), .ref (am 11), .ref (am 12), .ref (am 13), .ref (am 14), .ref (am 15), .ref (am 16), .ref (am 17), .ref (am 18), zv 0, zv 1], aI G (am 1) 40 (upd (fa 1) rs.length (nI a)), aI G (am 2) 40 (upd (fa 2) rs.length (evI ev)), aI G (am 3) 40 (upd (fa 3) rs.length (nI b)), aI G (am 4) 40 (upd (fa 4) rs.length (nI 0)), aI G (am 5) 160 (fa 5), aI G (am 6) 160 (fa 6), aZ G (am 7) 64 (fa 7), aI G (am 8) 96 (fa 8), aI G (am 9) 98304 (fa 9), aI G (am 10) 8192 (fa 10), aI G (am 11) 8192 (fa 11), aI G (am 12) 8192 (fa 12), aI G (am 13) 8192 (fa 13), aI G (am 14) 8192 (fa 14), aI G (am 15) 8192 (fa 15), aI G (am 16) 12 (fa 16), aI G (am 17) 12 (fa 17), aI G (am 18) 12 (fa 18)]) H locs := hw1
            refine lv_aload_n hx hb d_M_rule_120 rfl (lv_at hl 0 rfl) ?_
            refine g_M_117 hx hb hts hown hK hw 0 rfl rfl d_M_rule_121 ?_
            refine lv_iconst (v := nI 1) hx hb d_M_rule_124 rfl ?_
            refine r_isubN hx hb (by rw [List.length_append]; simp) d_M_rule_125 ?_
            refine r_eq (show nI (((rs ++ [(a, ev, b, [])]).length) - 1) = nI rs.length from congrArg nI (by rw [List.length_append, List.length_singleton]; omega)) ?_
            exact r_ret hQ (r_iret (va_up (va_up (va_up (va_up fa 1 (upd (fa 1) rs.length (nI a))) 2 (upd (fa 2) rs.length (evI ev))) 3 (upd (fa 3) rs.length (nI b))) 4 (upd (fa 4) rs.length (nI 0))) hx hb hr hlk hw (⟨rfl, hMC.kp2 rfl rfl, hrl.snoc hlt (by omega) (by omega) (fun k hk => Nat.lt_of_lt_of_le (hev k hk) hK6)⟩) (by omega) (by omega) d_M_rule_126)
          · skip
            exact absurd c_61 (by decide)
        · skip
          exfalso; omega
      · skip
        refine lv_iload_n hx hb d_M_rule_28 rfl (lv_at hl 2 rfl) ?_
        refine lv_aload_n hx hb d_M_rule_29 rfl (lv_at hl 0 rfl) ?_
        refine g_M_110 hx hb hts hown hK hw 0 rfl rfl d_M_rule_30 ?_
        refine xS_i (rest := [.ref (am 0)]) (As := [.int (evI ev), .int (nI Kx)]) hx hb hml hown hts hK hA hw k_M_113 (c_M_isOf zl G (evI ev) (nI Kx)) ([]) rfl rfl (fun _ => Nat.le_of_ble_eq_true rfl) rfl rfl hl.1 (Nat.le_of_ble_eq_true rfl) ⟨(by omega), (by omega)⟩ ⟨(by omega), (by omega)⟩ d_M_rule_33 (fun r u H locs hp hw1 => ?_)
        rw [if_pos (evI_of hev hK6 c_25)] at hp
        subst hp
        refine W.cs (cells' := 0) (slots' := 0) rfl rfl ?_
        replace hw : WW G A zs ([oM (am 0) [.int th, .int (nI n), .int (nI room), .int (nI Sx), .int (nI Kx), .int (nI rs.length), .ref (am 1), .ref (am 2), .ref (am 3), .ref (am 4), .ref (am 5), .ref (am 6), .ref (am 7), .ref (am 8), .int (nI pm.length), .int (nI E.length), .int (nI S.length), .int (nI md), .int (nI ag), .int (nI (deadN S S.length)), .int (anF ov), .int bw, .ref (am 9), .ref (am 10), .ref (am 11), .ref (am 12), .ref (am 13), .ref (am 14), .ref (am 15), .ref (am 16), .ref (am 17), .ref (am 18), zv 0, zv 1], aI G (am 1) 40 (fa 1), aI G (am 2) 40 (fa 2), aI G (am 3) 40 (fa 3), aI G (am 4) 40 (fa 4), aI G (am 5) 160 (fa 5), aI G (am 6) 160 (fa 6), aZ G (am 7) 64 (fa 7), aI G (am 8) 96 (fa 8), aI G (am 9) 98304 (fa 9), aI G (am 10) 8192 (fa 10), aI G (am 11) 8192 (fa 11), aI G (am 12) 8192 (fa 12), aI G (am 13) 8192 (fa 13), aI G (am 14) 8192 (fa 14), aI G (am 15) 8192 (fa 15), aI G (am 16) 12 (fa 16), aI G (am 17) 12 (fa 17), aI G (am 18) 12 (fa 18)]) H locs := hw1
        refine r_if_ne (tgt := 43) hx hb (by omega) d_M_rule_36 (by decide) (fun c_36 => ?_) (fun c_36 => ?_)
        · skip
          refine lv_iconst (v := nI 0) hx hb d_M_rule_43 rfl ?_
          refine lv_aload_n hx hb d_M_rule_44 rfl (lv_at hl 0 rfl) ?_
          refine g_M_117 hx hb hts hown hK hw 0 rfl rfl d_M_rule_45 ?_
          refine lv_bipush (v := nI 40) hx hb d_M_rule_48 (by decide) ?_
          refine r_icmp_ne (tgt := 57) hx hb (by omega) (by omega) d_M_rule_50 (by decide) (fun c_50 => ?_) (fun c_50 => ?_)
          · skip
            refine lv_iconst (v := nI 0) hx hb d_M_rule_57 rfl ?_
            refine xV_i (rest := []) (As := [.int (nI 0), .int (nI 0)]) hx hb hml hown hts hK hA hw k_M_103 (c_M_throwing zl G (am 0) th (nI 0) (nI 0) (.int (nI n)) (.int (nI room)) (.int (nI Sx)) (.int (nI Kx)) (.int (nI rs.length)) (.ref (am 1)) (.ref (am 2)) (.ref (am 3)) (.ref (am 4)) (.ref (am 5)) (.ref (am 6)) (.ref (am 7)) (.ref (am 8)) (.int (nI pm.length)) (.int (nI E.length)) (.int (nI S.length)) (.int (nI md)) (.int (nI ag)) (.int (nI (deadN S S.length))) (.int (anF ov)) (.int bw) (.ref (am 9)) (.ref (am 10)) (.ref (am 11)) (.ref (am 12)) (.ref (am 13)) (.ref (am 14)) (.ref (am 15)) (.ref (am 16)) (.ref (am 17)) (.ref (am 18)) (zv 0) (zv 1)) ([0]) rfl rfl (fun _ => Nat.le_of_ble_eq_true rfl) 0 rfl rfl rfl rfl hl.1 (Nat.le_of_ble_eq_true rfl) ⟨(by omega), (by omega)⟩ ⟨(by omega), (by omega)⟩ d_M_rule_58 (fun r u3 H locs hp hw1 => ?_)
            obtain ⟨rfl, rfl⟩ := hp
            refine W.cs (cells' := 0) (slots' := 0) rfl rfl ?_
            replace hw : WW G A zs ([oM (am 0) [.int (nI 0), .int (nI n), .int (nI room), .int (nI Sx), .int (nI Kx), .int (nI rs.length), .ref (am 1), .ref (am 2), .ref (am 3), .ref (am 4), .ref (am 5), .ref (am 6), .ref (am 7), .ref (am 8), .int (nI pm.length), .int (nI E.length), .int (nI S.length), .int (nI md), .int (nI ag), .int (nI (deadN S S.length)), .int (anF ov), .int bw, .ref (am 9), .ref (am 10), .ref (am 11), .ref (am 12), .ref (am 13), .ref (am 14), .ref (am 15), .ref (am 16), .ref (am 17), .ref (am 18), zv 0, zv 1], aI G (am 1) 40 (fa 1), aI G (am 2) 40 (fa 2), aI G (am 3) 40 (fa 3), aI G (am 4) 40 (fa 4), aI G (am 5) 160 (fa 5), aI G (am 6) 160 (fa 6), aZ G (am 7) 64 (fa 7), aI G (am 8) 96 (fa 8), aI G (am 9) 98304 (fa 9), aI G (am 10) 8192 (fa 10), aI G (am 11) 8192 (fa 11), aI G (am 12) 8192 (fa 12), aI G (am 13) 8192 (fa 13), aI G (am 14) 8192 (fa 14), aI G (am 15) 8192 (fa 15), aI G (am 16) 12 (fa 16), aI G (am 17) 12 (fa 17), aI G (am 18) 12 (fa 18)]) H locs := hw1
            refine r_if_eq (tgt := 66) hx hb (by omega) d_M_rule_61 (by decide) (fun c_61 => ?_) (fun c_61 => ?_)
            · skip
              refine lv_aload_n hx hb d_M_rule_66 rfl (lv_at hl 0 rfl) ?_
              refine xV_v (rest := []) (As := []) hx hb hml hown hts hK hA hw k_M_107 (c_M_forget zl G (am 0) _ _ _ _ _ _ _ _ _ _ _ _ _ _ _ _ _ _ _ _ _ _ _ _ _ _ _ _ _ _ _ _ _ _) ([0]) rfl rfl (fun _ => Nat.le_of_ble_eq_true rfl) 0 rfl rfl rfl rfl hl.1 (Nat.le_of_ble_eq_true rfl) ⟨(by omega), (by omega)⟩ ⟨(by omega), (by omega)⟩ d_M_rule_67 (fun _ u H locs hp hw1 => ?_)
              refine W.cs (cells' := 0) (slots' := 0) rfl rfl ?_
              replace hw : WW G A zs ([oM (am 0) [.int (nI 0), .int (nI n), .int (nI room), .int (nI Sx), .int (nI Kx), .int (nI rs.length), .ref (am 1), .ref (am 2), .ref (am 3), .ref (am 4), .ref (am 5), .ref (am 6), .ref (am 7), .ref (am 8), .int (nI pm.length), .int (nI 0), .int (nI 0), .int (nI 0), .int (nI 0), .int (nI 0), .int (nI 0), .int (-1), .ref (am 9), .ref (am 10), .ref (am 11), .ref (am 12), .ref (am 13), .ref (am 14), .ref (am 15), .ref (am 16), .ref (am 17), .ref (am 18), zv 0, zv 1], aI G (am 1) 40 (fa 1), aI G (am 2) 40 (fa 2), aI G (am 3) 40 (fa 3), aI G (am 4) 40 (fa 4), aI G (am 5) 160 (fa 5), aI G (am 6) 160 (fa 6), aZ G (am 7) 64 (fa 7), aI G (am 8) 96 (fa 8), aI G (am 9) 98304 (fa 9), aI G (am 10) 8192 (fa 10), aI G (am 11) 8192 (fa 11), aI G (am 12) 8192 (fa 12), aI G (am 13) 8192 (fa 13), aI G (am 14) 8192 (fa 14), aI G (am 15) 8192 (fa 15), aI G (am 16) 12 (fa 16), aI G (am 17) 12 (fa 17), aI G (am 18) 12 (fa 18)]) H locs := hw1
              refine lv_aload_n hx hb d_M_rule_70 rfl (lv_at hl 0 rfl) ?_
              refine g_M_13 hx hb hts hown hK hw 0 rfl rfl d_M_rule_71 ?_
              refine lv_aload_n hx hb d_M_rule_74 rfl (lv_at hl 0 rfl) ?_
              refine g_M_117 hx hb hts hown hK hw 0 rfl rfl d_M_rule_75 ?_
              refine lv_iload_n hx hb d_M_rule_78 rfl (lv_at hl 1 rfl) ?_
              refine r_iast hx hb hK hw 1 rfl (by omega) (by omega) d_M_rule_79 (fun H locs hw1 => ?_)
              replace hw : WW G A zs ([oM (am 0) [.int (nI 0), .int (nI n), .int (nI room), .int (nI Sx), .int (nI Kx), .int (nI rs.length), .ref (am 1), .ref (am 2), .ref (am 3), .ref (am 4), .ref (am 5), .ref (am 6), .ref (am 7), .ref (am 8), .int (nI pm.length), .int (nI 0), .int (nI 0), .int (nI 0), .int (nI 0), .int (nI 0), .int (nI 0), .int (-1), .ref (am 9), .ref (am 10), .ref (am 11), .ref (am 12), .ref (am 13), .ref (am 14), .ref (am 15), .ref (am 16), .ref (am 17), .ref (am 18), zv 0, zv 1], aI G (am 1) 40 (upd (fa 1) rs.length (nI a)), aI G (am 2) 40 (fa 2), aI G (am 3) 40 (fa 3), aI G (am 4) 40 (fa 4), aI G (am 5) 160 (fa 5), aI G (am 6) 160 (fa 6), aZ G (am 7) 64 (fa 7), aI G (am 8) 96 (fa 8), aI G (am 9) 98304 (fa 9), aI G (am 10) 8192 (fa 10), aI G (am 11) 8192 (fa 11), aI G (am 12) 8192 (fa 12), aI G (am 13) 8192 (fa 13), aI G (am 14) 8192 (fa 14), aI G (am 15) 8192 (fa 15), aI G (am 16) 12 (fa 16), aI G (am 17) 12 (fa 17), aI G (am 18) 12 (fa 18)]) H locs := hw1
              refine lv_aload_n hx hb d_M_rule_80 rfl (lv_at hl 0 rfl) ?_
              refine g_M_17 hx hb hts hown hK hw 0 rfl rfl d_M_rule_81 ?_
              refine lv_aload_n hx hb d_M_rule_84 rfl (lv_at hl 0 rfl) ?_
              refine g_M_117 hx hb hts hown hK hw 0 rfl rfl d_M_rule_85 ?_
              refine lv_iload_n hx hb d_M_rule_88 rfl (lv_at hl 2 rfl) ?_
              refine r_iast hx hb hK hw 2 rfl (by omega) (by omega) d_M_rule_89 (fun H locs hw1 => ?_)
              replace hw : WW G A zs ([oM (am 0) [.int (nI 0), .int (nI n), .int (nI room), .int (nI Sx), .int (nI Kx), .int (nI rs.length), .ref (am 1), .ref (am 2), .ref (am 3), .ref (am 4), .ref (am 5), .ref (am 6), .ref (am 7), .ref (am 8), .int (nI pm.length), .int (nI 0), .int (nI 0), .int (nI 0), .int (nI 0), .int (nI 0), .int (nI 0), .int (-1), .ref (am 9), .ref (am 10), .ref (am 11), .ref (am 12), .ref (am 13), .ref (am 14), .ref (am 15), .ref (am 16), .ref (am 17), .ref (am 18), zv 0, zv 1], aI G (am 1) 40 (upd (fa 1) rs.length (nI a)), aI G (am 2) 40 (upd (fa 2) rs.length (evI ev)), aI G (am 3) 40 (fa 3), aI G (am 4) 40 (fa 4), aI G (am 5) 160 (fa 5), aI G (am 6) 160 (fa 6), aZ G (am 7) 64 (fa 7), aI G (am 8) 96 (fa 8), aI G (am 9) 98304 (fa 9), aI G (am 10) 8192 (fa 10), aI G (am 11) 8192 (fa 11), aI G (am 12) 8192 (fa 12), aI G (am 13) 8192 (fa 13), aI G (am 14) 8192 (fa 14), aI G (am 15) 8192 (fa 15), aI G (am 16) 12 (fa 16), aI G (am 17) 12 (fa 17), aI G (am 18) 12 (fa 18)]) H locs := hw1
              refine lv_aload_n hx hb d_M_rule_90 rfl (lv_at hl 0 rfl) ?_
              refine g_M_20 hx hb hts hown hK hw 0 rfl rfl d_M_rule_91 ?_
              refine lv_aload_n hx hb d_M_rule_94 rfl (lv_at hl 0 rfl) ?_
              refine g_M_117 hx hb hts hown hK hw 0 rfl rfl d_M_rule_95 ?_
              refine lv_iload_n hx hb d_M_rule_98 rfl (lv_at hl 3 rfl) ?_
              refine r_iast hx hb hK hw 3 rfl (by omega) (by omega) d_M_rule_99 (fun H locs hw1 => ?_)
              replace hw : WW G A zs ([oM (am 0) [.int (nI 0), .int (nI n), .int (nI room), .int (nI Sx), .int (nI Kx), .int (nI rs.length), .ref (am 1), .ref (am 2), .ref (am 3), .ref (am 4), .ref (am 5), .ref (am 6), .ref (am 7), .ref (am 8), .int (nI pm.length), .int (nI 0), .int (nI 0), .int (nI 0), .int (nI 0), .int (nI 0), .int (nI 0), .int (-1), .ref (am 9), .ref (am 10), .ref (am 11), .ref (am 12), .ref (am 13), .ref (am 14), .ref (am 15), .ref (am 16), .ref (am 17), .ref (am 18), zv 0, zv 1], aI G (am 1) 40 (upd (fa 1) rs.length (nI a)), aI G (am 2) 40 (upd (fa 2) rs.length (evI ev)), aI G (am 3) 40 (upd (fa 3) rs.length (nI b)), aI G (am 4) 40 (fa 4), aI G (am 5) 160 (fa 5), aI G (am 6) 160 (fa 6), aZ G (am 7) 64 (fa 7), aI G (am 8) 96 (fa 8), aI G (am 9) 98304 (fa 9), aI G (am 10) 8192 (fa 10), aI G (am 11) 8192 (fa 11), aI G (am 12) 8192 (fa 12), aI G (am 13) 8192 (fa 13), aI G (am 14) 8192 (fa 14), aI G (am 15) 8192 (fa 15), aI G (am 16) 12 (fa 16), aI G (am 17) 12 (fa 17), aI G (am 18) 12 (fa 18)]) H locs := hw1
              refine lv_aload_n hx hb d_M_rule_100 rfl (lv_at hl 0 rfl) ?_
              refine g_M_23 hx hb hts hown hK hw 0 rfl rfl d_M_rule_101 ?_
              refine lv_aload_n hx hb d_M_rule_104 rfl (lv_at hl 0 rfl) ?_
              refine g_M_117 hx hb hts hown hK hw 0 rfl rfl d_M_rule_105 ?_
              refine lv_iconst (v := nI 0) hx hb d_M_rule_108 rfl ?_
              refine r_iast hx hb hK hw 4 rfl (by omega) (by omega) d_M_rule_109 (fun H locs hw1 => ?_)
              replace hw : WW G A zs ([oM (am 0) [.int (nI 0), .int (nI n), .int (nI room), .int (nI Sx), .int (nI Kx), .int (nI rs.length), .ref (am 1), .ref (am 2), .ref (am 3), .ref (am 4), .ref (am 5), .ref (am 6), .ref (am 7), .ref (am 8), .int (nI pm.length), .int (nI 0), .int (nI 0), .int (nI 0), .int (nI 0), .int (nI 0), .int (nI 0), .int (-1), .ref (am 9), .ref (am 10), .ref (am 11), .ref (am 12), .ref (am 13), .ref (am 14), .ref (am 15), .ref (am 16), .ref (am 17), .ref (am 18), zv 0, zv 1], aI G (am 1) 40 (upd (fa 1) rs.length (nI a)), aI G (am 2) 40 (upd (fa 2) rs.length (evI ev)), aI G (am 3) 40 (upd (fa 3) rs.length (nI b)), aI G (am 4) 40 (upd (fa 4) rs.length (nI 0)), aI G (am 5) 160 (fa 5), aI G (am 6) 160 (fa 6), aZ G (am 7) 64 (fa 7), aI G (am 8) 96 (fa 8), aI G (am 9) 98304 (fa 9), aI G (am 10) 8192 (fa 10), aI G (am 11) 8192 (fa 11), aI G (am 12) 8192 (fa 12), aI G (am 13) 8192 (fa 13), aI G (am 14) 8192 (fa 14), aI G (am 15) 8192 (fa 15), aI G (am 16) 12 (fa 16), aI G (am 17) 12 (fa 17), aI G (am 18) 12 (fa 18)]) H locs := hw1
              refine lv_aload_n hx hb d_M_rule_110 rfl (lv_at hl 0 rfl) ?_
              refine lv_dup hx hb d_M_rule_111 rfl ?_
              refine g_M_117 hx hb hts hown hK hw 0 rfl rfl d_M_rule_112 ?_
              refine lv_iconst (v := nI 1) hx hb d_M_rule_115 rfl ?_
              refine r_iaddN hx hb d_M_rule_116 ?_
              refine r_eq (show nI (rs.length + 1) = nI ((rs ++ [(a, ev, b, [])]).length) from congrArg nI (by rw [List.length_append]; rfl)) ?_
              refine p_M_117 hx hb hts hown hK hw 0 rfl (Nat.le_of_ble_eq_true rfl) d_M_rule_117 (fun H locs hw1 => ?_)
              replace hw : WW G A zs ([oM (am 0) [.int (nI 0), .int (nI n), .int (nI room), .int (nI Sx), .int (nI Kx), .int (nI ((rs ++ [(a, ev, b, [])]).length)), .ref (am 1), .ref (am 2), .ref (am 3), .ref (am 4), .ref (am 5), .ref (am 6), .ref (am 7), .ref (am 8), .int (nI pm.length), .int (nI 0), .int (nI 0), .int (nI 0), .int (nI 0), .int (nI 0), .int (nI 0), .int (-1), .ref (am 9), .ref (am 10), .ref (am 11), .ref (am 12), .ref (am 13), .ref (am 14), .ref (am 15), .ref (am 16), .ref (am 17), .ref (am 18), zv 0, zv 1], aI G (am 1) 40 (upd (fa 1) rs.length (nI a)), aI G (am 2) 40 (upd (fa 2) rs.length (evI ev)), aI G (am 3) 40 (upd (fa 3) rs.length (nI b)), aI G (am 4) 40 (upd (fa 4) rs.length (nI 0)), aI G (am 5) 160 (fa 5), aI G (am 6) 160 (fa 6), aZ G (am 7) 64 (fa 7), aI G (am 8) 96 (fa 8), aI G (am 9) 98304 (fa 9), aI G (am 10) 8192 (fa 10), aI G (am 11) 8192 (fa 11), aI G (am 12) 8192 (fa 12), aI G (am 13) 8192 (fa 13), aI G (am 14) 8192 (fa 14), aI G (am 15) 8192 (fa 15), aI G (am 16) 12 (fa 16), aI G (am 17) 12 (fa 17), aI G (am 18) 12 (fa 18)]) H locs := hw1
              refine lv_aload_n hx hb d_M_rule_120 rfl (lv_at hl 0 rfl) ?_
              refine g_M_117 hx hb hts hown hK hw 0 rfl rfl d_M_rule_121 ?_
              refine lv_iconst (v := nI 1) hx hb d_M_rule_124 rfl ?_
              refine r_isubN hx hb (by rw [List.length_append]; simp) d_M_rule_125 ?_
              refine r_eq (show nI (((rs ++ [(a, ev, b, [])]).length) - 1) = nI rs.length from congrArg nI (by rw [List.length_append, List.length_singleton]; omega)) ?_
              exact r_ret hQ (r_iret (va_up (va_up (va_up (va_up fa 1 (upd (fa 1) rs.length (nI a))) 2 (upd (fa 2) rs.length (evI ev))) 3 (upd (fa 3) rs.length (nI b))) 4 (upd (fa 4) rs.length (nI 0))) hx hb hr hlk hw (⟨rfl, hMC.kp2 rfl rfl, hrl.snoc hlt (by omega) (by omega) (fun k hk => Nat.lt_of_lt_of_le (hev k hk) hK6)⟩) (by omega) (by omega) d_M_rule_126)
            · skip
              exact absurd c_61 (by decide)
          · skip
            exfalso; omega
        · skip
          exact absurd c_36 (by decide)
set_option maxHeartbeats 4000000 in
set_option maxRecDepth 100000 in
theorem c_M_ruleX (zl : Launch) (G : GG) (am : Nat → Nat) (fa : Nat → Nat → Int32) (zv : Nat → Value) (th bw : Int32) (n room Sx Kx : Nat) (ps pm : List (List Nat)) (B : Nat → Bool) (rs : List Rl) (E : List Ent) (S : List Nat) (md ag ov : Nat) (x y z : Int32) (hMC : MC n ps pm B fa) (hrl : MRl rs fa) (hbad : ¬ ((0 ≤ x ∧ x < nI Sx) ∧ (0 ≤ z ∧ z < nI Sx) ∧ (y = -1 ∨ (0 ≤ y ∧ y < nI Kx)))) : Ctr (S := Unit) vI zl y_M_rule b_M_rule 4 (Option.some Jvm.ClassFile.FieldType.int) 1 0 0 G [.ref (am 0), .int x, .int y, .int z] ([oM (am 0) [.int th, .int (nI n), .int (nI room), .int (nI Sx), .int (nI Kx), .int (nI rs.length), .ref (am 1), .ref (am 2), .ref (am 3), .ref (am 4), .ref (am 5), .ref (am 6), .ref (am 7), .ref (am 8), .int (nI pm.length), .int (nI E.length), .int (nI S.length), .int (nI md), .int (nI ag), .int (nI (deadN S S.length)), .int (anF ov), .int bw, .ref (am 9), .ref (am 10), .ref (am 11), .ref (am 12), .ref (am 13), .ref (am 14), .ref (am 15), .ref (am 16), .ref (am 17), .ref (am 18), zv 0, zv 1], aI G (am 1) 40 (fa 1), aI G (am 2) 40 (fa 2), aI G (am 3) 40 (fa 3), aI G (am 4) 40 (fa 4), aI G (am 5) 160 (fa 5), aI G (am 6) 160 (fa 6), aZ G (am 7) 64 (fa 7), aI G (am 8) 96 (fa 8), aI G (am 9) 98304 (fa 9), aI G (am 10) 8192 (fa 10), aI G (am 11) 8192 (fa 11), aI G (am 12) 8192 (fa 12), aI G (am 13) 8192 (fa 13), aI G (am 14) 8192 (fa 14), aI G (am 15) 8192 (fa 15), aI G (am 16) 12 (fa 16), aI G (am 17) 12 (fa 17), aI G (am 18) 12 (fa 18)]) (fun _ _ => True) (fun _ => [oM (am 0) [.int (nI 1), .int (nI n), .int (nI room), .int (nI Sx), .int (nI Kx), .int (nI rs.length), .ref (am 1), .ref (am 2), .ref (am 3), .ref (am 4), .ref (am 5), .ref (am 6), .ref (am 7), .ref (am 8), .int (nI pm.length), .int (nI E.length), .int (nI S.length), .int (nI md), .int (nI ag), .int (nI (deadN S S.length)), .int (anF ov), .int bw, .ref (am 9), .ref (am 10), .ref (am 11), .ref (am 12), .ref (am 13), .ref (am 14), .ref (am 15), .ref (am 16), .ref (am 17), .ref (am 18), zv 0, zv 1], aI G (am 1) 40 (fa 1), aI G (am 2) 40 (fa 2), aI G (am 3) 40 (fa 3), aI G (am 4) 40 (fa 4), aI G (am 5) 160 (fa 5), aI G (am 6) 160 (fa 6), aZ G (am 7) 64 (fa 7), aI G (am 8) 96 (fa 8), aI G (am 9) 98304 (fa 9), aI G (am 10) 8192 (fa 10), aI G (am 11) 8192 (fa 11), aI G (am 12) 8192 (fa 12), aI G (am 13) 8192 (fa 13), aI G (am 14) 8192 (fa 14), aI G (am 15) 8192 (fa 15), aI G (am 16) 12 (fa 16), aI G (am 17) 12 (fa 17), aI G (am 18) 12 (fa 18)]) := by
  refine Ctr.start (by decide) (Nat.le_of_ble_eq_true rfl) ?_
  intro zp ze zs zm below meth zc A ls C0 hin hK hA hl hw
  obtain ⟨hx, hb, hr, hlk, hml, hown, hts⟩ := C0
  obtain ⟨R, hRR⟩ : ∃ R : Room, R = rmL 1 0 0 := ⟨_, rfl⟩
  have hRf : R.frames = 1 := by rw [hRR]
  have hRl : R.locals = 64 * 1 := by rw [hRR]
  have hRc : R.cells = 0 := by rw [hRR]
  have hRs : R.slots = 0 := by rw [hRR]
  rw [← hRR]; clear hRR
  generalize hQ : MQ below _ _ zs _ _ A = Q
  generalize hAr : List.toArray _ = args at hts hQ ⊢
  replace hl : lv_has ls 4 [(0, .ref (am 0)), (1, .int x), (2, .int y), (3, .int z)] := hl
  obtain ⟨H, eH⟩ : ∃ H : Heap, H = zs.heap := ⟨_, rfl⟩
  obtain ⟨locs, eL⟩ : ∃ l0 : List Loc, l0 = [] := ⟨_, rfl⟩
  rw [← eH, ← eL] at hw ⊢; clear eH eL
  have hrll := hrl.1
  refine lv_aload_n hx hb d_M_rule_0 rfl (lv_at hl 0 rfl) ?_
  refine lv_iload_n hx hb d_M_rule_1 rfl (lv_at hl 1 rfl) ?_
  refine lv_aload_n hx hb d_M_rule_2 rfl (lv_at hl 0 rfl) ?_
  refine g_M_7 hx hb hts hown hK hw 0 rfl rfl d_M_rule_3 ?_
  by_cases ho_6 : 0 ≤ x ∧ x < nI Sx
  · skip
    refine xS_i (rest := [.ref (am 0)]) (As := [.int x, .int (nI Sx)]) hx hb hml hown hts hK hA hw k_M_113 (c_M_isOf zl G x (nI Sx)) ([]) rfl rfl (fun _ => Nat.le_of_ble_eq_true rfl) rfl rfl hl.1 (Nat.le_of_ble_eq_true rfl) ⟨(by omega), (by omega)⟩ ⟨(by omega), (by omega)⟩ d_M_rule_6 (fun r u H locs hp hw1 => ?_)
    rw [if_pos ho_6] at hp
    subst hp
    refine W.cs (cells' := 0) (slots' := 0) rfl rfl ?_
    replace hw : WW G A zs ([oM (am 0) [.int th, .int (nI n), .int (nI room), .int (nI Sx), .int (nI Kx), .int (nI rs.length), .ref (am 1), .ref (am 2), .ref (am 3), .ref (am 4), .ref (am 5), .ref (am 6), .ref (am 7), .ref (am 8), .int (nI pm.length), .int (nI E.length), .int (nI S.length), .int (nI md), .int (nI ag), .int (nI (deadN S S.length)), .int (anF ov), .int bw, .ref (am 9), .ref (am 10), .ref (am 11), .ref (am 12), .ref (am 13), .ref (am 14), .ref (am 15), .ref (am 16), .ref (am 17), .ref (am 18), zv 0, zv 1], aI G (am 1) 40 (fa 1), aI G (am 2) 40 (fa 2), aI G (am 3) 40 (fa 3), aI G (am 4) 40 (fa 4), aI G (am 5) 160 (fa 5), aI G (am 6) 160 (fa 6), aZ G (am 7) 64 (fa 7), aI G (am 8) 96 (fa 8), aI G (am 9) 98304 (fa 9), aI G (am 10) 8192 (fa 10), aI G (am 11) 8192 (fa 11), aI G (am 12) 8192 (fa 12), aI G (am 13) 8192 (fa 13), aI G (am 14) 8192 (fa 14), aI G (am 15) 8192 (fa 15), aI G (am 16) 12 (fa 16), aI G (am 17) 12 (fa 17), aI G (am 18) 12 (fa 18)]) H locs := hw1
    refine r_if_eq (tgt := 39) hx hb (by omega) d_M_rule_9 (by decide) (fun c_9 => ?_) (fun c_9 => ?_)
    · skip
      exact absurd c_9 (by decide)
    · skip
      refine lv_iload_n hx hb d_M_rule_12 rfl (lv_at hl 3 rfl) ?_
      refine lv_aload_n hx hb d_M_rule_13 rfl (lv_at hl 0 rfl) ?_
      refine g_M_7 hx hb hts hown hK hw 0 rfl rfl d_M_rule_14 ?_
      by_cases ho_17 : 0 ≤ z ∧ z < nI Sx
      · skip
        refine xS_i (rest := [.ref (am 0)]) (As := [.int z, .int (nI Sx)]) hx hb hml hown hts hK hA hw k_M_113 (c_M_isOf zl G z (nI Sx)) ([]) rfl rfl (fun _ => Nat.le_of_ble_eq_true rfl) rfl rfl hl.1 (Nat.le_of_ble_eq_true rfl) ⟨(by omega), (by omega)⟩ ⟨(by omega), (by omega)⟩ d_M_rule_17 (fun r u H locs hp hw1 => ?_)
        rw [if_pos ho_17] at hp
        subst hp
        refine W.cs (cells' := 0) (slots' := 0) rfl rfl ?_
        replace hw : WW G A zs ([oM (am 0) [.int th, .int (nI n), .int (nI room), .int (nI Sx), .int (nI Kx), .int (nI rs.length), .ref (am 1), .ref (am 2), .ref (am 3), .ref (am 4), .ref (am 5), .ref (am 6), .ref (am 7), .ref (am 8), .int (nI pm.length), .int (nI E.length), .int (nI S.length), .int (nI md), .int (nI ag), .int (nI (deadN S S.length)), .int (anF ov), .int bw, .ref (am 9), .ref (am 10), .ref (am 11), .ref (am 12), .ref (am 13), .ref (am 14), .ref (am 15), .ref (am 16), .ref (am 17), .ref (am 18), zv 0, zv 1], aI G (am 1) 40 (fa 1), aI G (am 2) 40 (fa 2), aI G (am 3) 40 (fa 3), aI G (am 4) 40 (fa 4), aI G (am 5) 160 (fa 5), aI G (am 6) 160 (fa 6), aZ G (am 7) 64 (fa 7), aI G (am 8) 96 (fa 8), aI G (am 9) 98304 (fa 9), aI G (am 10) 8192 (fa 10), aI G (am 11) 8192 (fa 11), aI G (am 12) 8192 (fa 12), aI G (am 13) 8192 (fa 13), aI G (am 14) 8192 (fa 14), aI G (am 15) 8192 (fa 15), aI G (am 16) 12 (fa 16), aI G (am 17) 12 (fa 17), aI G (am 18) 12 (fa 18)]) H locs := hw1
        refine r_if_eq (tgt := 39) hx hb (by omega) d_M_rule_20 (by decide) (fun c_20 => ?_) (fun c_20 => ?_)
        · skip
          exact absurd c_20 (by decide)
        · skip
          refine lv_iload_n hx hb d_M_rule_23 rfl (lv_at hl 2 rfl) ?_
          refine lv_iconst (v := -1) hx hb d_M_rule_24 (by decide) ?_
          refine lv_icmp_eq (tgt := 43) hx hb d_M_rule_25 (by decide) (fun c_25 => ?_) (fun c_25 => ?_)
          · skip
            exact absurd ⟨ho_6, ho_17, Or.inl c_25⟩ hbad
          · skip
            refine lv_iload_n hx hb d_M_rule_28 rfl (lv_at hl 2 rfl) ?_
            refine lv_aload_n hx hb d_M_rule_29 rfl (lv_at hl 0 rfl) ?_
            refine g_M_110 hx hb hts hown hK hw 0 rfl rfl d_M_rule_30 ?_
            by_cases ho_33 : 0 ≤ y ∧ y < nI Kx
            · skip
              refine xS_i (rest := [.ref (am 0)]) (As := [.int y, .int (nI Kx)]) hx hb hml hown hts hK hA hw k_M_113 (c_M_isOf zl G y (nI Kx)) ([]) rfl rfl (fun _ => Nat.le_of_ble_eq_true rfl) rfl rfl hl.1 (Nat.le_of_ble_eq_true rfl) ⟨(by omega), (by omega)⟩ ⟨(by omega), (by omega)⟩ d_M_rule_33 (fun r u H locs hp hw1 => ?_)
              rw [if_pos ho_33] at hp
              subst hp
              refine W.cs (cells' := 0) (slots' := 0) rfl rfl ?_
              replace hw : WW G A zs ([oM (am 0) [.int th, .int (nI n), .int (nI room), .int (nI Sx), .int (nI Kx), .int (nI rs.length), .ref (am 1), .ref (am 2), .ref (am 3), .ref (am 4), .ref (am 5), .ref (am 6), .ref (am 7), .ref (am 8), .int (nI pm.length), .int (nI E.length), .int (nI S.length), .int (nI md), .int (nI ag), .int (nI (deadN S S.length)), .int (anF ov), .int bw, .ref (am 9), .ref (am 10), .ref (am 11), .ref (am 12), .ref (am 13), .ref (am 14), .ref (am 15), .ref (am 16), .ref (am 17), .ref (am 18), zv 0, zv 1], aI G (am 1) 40 (fa 1), aI G (am 2) 40 (fa 2), aI G (am 3) 40 (fa 3), aI G (am 4) 40 (fa 4), aI G (am 5) 160 (fa 5), aI G (am 6) 160 (fa 6), aZ G (am 7) 64 (fa 7), aI G (am 8) 96 (fa 8), aI G (am 9) 98304 (fa 9), aI G (am 10) 8192 (fa 10), aI G (am 11) 8192 (fa 11), aI G (am 12) 8192 (fa 12), aI G (am 13) 8192 (fa 13), aI G (am 14) 8192 (fa 14), aI G (am 15) 8192 (fa 15), aI G (am 16) 12 (fa 16), aI G (am 17) 12 (fa 17), aI G (am 18) 12 (fa 18)]) H locs := hw1
              refine r_if_ne (tgt := 43) hx hb (by omega) d_M_rule_36 (by decide) (fun c_36 => ?_) (fun c_36 => ?_)
              · skip
                exact absurd ⟨ho_6, ho_17, Or.inr ho_33⟩ hbad
              · skip
                exact absurd c_36 (by decide)
            · skip
              refine xS_i (rest := [.ref (am 0)]) (As := [.int y, .int (nI Kx)]) hx hb hml hown hts hK hA hw k_M_113 (c_M_isOf zl G y (nI Kx)) ([]) rfl rfl (fun _ => Nat.le_of_ble_eq_true rfl) rfl rfl hl.1 (Nat.le_of_ble_eq_true rfl) ⟨(by omega), (by omega)⟩ ⟨(by omega), (by omega)⟩ d_M_rule_33 (fun r u H locs hp hw1 => ?_)
              rw [if_neg ho_33] at hp
              subst hp
              refine W.cs (cells' := 0) (slots' := 0) rfl rfl ?_
              replace hw : WW G A zs ([oM (am 0) [.int th, .int (nI n), .int (nI room), .int (nI Sx), .int (nI Kx), .int (nI rs.length), .ref (am 1), .ref (am 2), .ref (am 3), .ref (am 4), .ref (am 5), .ref (am 6), .ref (am 7), .ref (am 8), .int (nI pm.length), .int (nI E.length), .int (nI S.length), .int (nI md), .int (nI ag), .int (nI (deadN S S.length)), .int (anF ov), .int bw, .ref (am 9), .ref (am 10), .ref (am 11), .ref (am 12), .ref (am 13), .ref (am 14), .ref (am 15), .ref (am 16), .ref (am 17), .ref (am 18), zv 0, zv 1], aI G (am 1) 40 (fa 1), aI G (am 2) 40 (fa 2), aI G (am 3) 40 (fa 3), aI G (am 4) 40 (fa 4), aI G (am 5) 160 (fa 5), aI G (am 6) 160 (fa 6), aZ G (am 7) 64 (fa 7), aI G (am 8) 96 (fa 8), aI G (am 9) 98304 (fa 9), aI G (am 10) 8192 (fa 10), aI G (am 11) 8192 (fa 11), aI G (am 12) 8192 (fa 12), aI G (am 13) 8192 (fa 13), aI G (am 14) 8192 (fa 14), aI G (am 15) 8192 (fa 15), aI G (am 16) 12 (fa 16), aI G (am 17) 12 (fa 17), aI G (am 18) 12 (fa 18)]) H locs := hw1
              refine r_if_ne (tgt := 43) hx hb (by omega) d_M_rule_36 (by decide) (fun c_36 => ?_) (fun c_36 => ?_)
              · skip
                exact absurd c_36 (by decide)
              · skip
                refine lv_iconst (v := nI 1) hx hb d_M_rule_39 rfl ?_
                refine lv_goto (tgt := 44) hx hb d_M_rule_40 (by decide) ?_
                refine lv_aload_n hx hb d_M_rule_44 rfl (lv_at hl 0 rfl) ?_
                refine g_M_117 hx hb hts hown hK hw 0 rfl rfl d_M_rule_45 ?_
                refine lv_bipush (v := nI 40) hx hb d_M_rule_48 (by decide) ?_
                refine r_icmp_ne (tgt := 57) hx hb (by omega) (by omega) d_M_rule_50 (by decide) (fun c_50 => ?_) (fun c_50 => ?_)
                · skip
                  refine lv_iconst (v := nI 0) hx hb d_M_rule_57 rfl ?_
                  refine xV_i (rest := []) (As := [.int (nI 1), .int (nI 0)]) hx hb hml hown hts hK hA hw k_M_103 (c_M_throwing zl G (am 0) th (nI 1) (nI 0) (.int (nI n)) (.int (nI room)) (.int (nI Sx)) (.int (nI Kx)) (.int (nI rs.length)) (.ref (am 1)) (.ref (am 2)) (.ref (am 3)) (.ref (am 4)) (.ref (am 5)) (.ref (am 6)) (.ref (am 7)) (.ref (am 8)) (.int (nI pm.length)) (.int (nI E.length)) (.int (nI S.length)) (.int (nI md)) (.int (nI ag)) (.int (nI (deadN S S.length))) (.int (anF ov)) (.int bw) (.ref (am 9)) (.ref (am 10)) (.ref (am 11)) (.ref (am 12)) (.ref (am 13)) (.ref (am 14)) (.ref (am 15)) (.ref (am 16)) (.ref (am 17)) (.ref (am 18)) (zv 0) (zv 1)) ([0]) rfl rfl (fun _ => Nat.le_of_ble_eq_true rfl) 0 rfl rfl rfl rfl hl.1 (Nat.le_of_ble_eq_true rfl) ⟨(by omega), (by omega)⟩ ⟨(by omega), (by omega)⟩ d_M_rule_58 (fun r u3 H locs hp hw1 => ?_)
                  obtain ⟨rfl, rfl⟩ := hp
                  refine W.cs (cells' := 0) (slots' := 0) rfl rfl ?_
                  replace hw : WW G A zs ([oM (am 0) [.int (nI 1), .int (nI n), .int (nI room), .int (nI Sx), .int (nI Kx), .int (nI rs.length), .ref (am 1), .ref (am 2), .ref (am 3), .ref (am 4), .ref (am 5), .ref (am 6), .ref (am 7), .ref (am 8), .int (nI pm.length), .int (nI E.length), .int (nI S.length), .int (nI md), .int (nI ag), .int (nI (deadN S S.length)), .int (anF ov), .int bw, .ref (am 9), .ref (am 10), .ref (am 11), .ref (am 12), .ref (am 13), .ref (am 14), .ref (am 15), .ref (am 16), .ref (am 17), .ref (am 18), zv 0, zv 1], aI G (am 1) 40 (fa 1), aI G (am 2) 40 (fa 2), aI G (am 3) 40 (fa 3), aI G (am 4) 40 (fa 4), aI G (am 5) 160 (fa 5), aI G (am 6) 160 (fa 6), aZ G (am 7) 64 (fa 7), aI G (am 8) 96 (fa 8), aI G (am 9) 98304 (fa 9), aI G (am 10) 8192 (fa 10), aI G (am 11) 8192 (fa 11), aI G (am 12) 8192 (fa 12), aI G (am 13) 8192 (fa 13), aI G (am 14) 8192 (fa 14), aI G (am 15) 8192 (fa 15), aI G (am 16) 12 (fa 16), aI G (am 17) 12 (fa 17), aI G (am 18) 12 (fa 18)]) H locs := hw1
                  refine r_if_eq (tgt := 66) hx hb (by omega) d_M_rule_61 (by decide) (fun c_61 => ?_) (fun c_61 => ?_)
                  · skip
                    exact absurd c_61 (by decide)
                  · skip
                    refine lv_iconst (v := nI 0) hx hb d_M_rule_64 rfl ?_
                    exact r_ret hQ (r_iret () hx hb hr hlk hw trivial (by omega) (by omega) d_M_rule_65)
                · skip
                  refine lv_iconst (v := nI 1) hx hb d_M_rule_53 rfl ?_
                  refine lv_goto (tgt := 58) hx hb d_M_rule_54 (by decide) ?_
                  refine xV_i (rest := []) (As := [.int (nI 1), .int (nI 1)]) hx hb hml hown hts hK hA hw k_M_103 (c_M_throwing zl G (am 0) th (nI 1) (nI 1) (.int (nI n)) (.int (nI room)) (.int (nI Sx)) (.int (nI Kx)) (.int (nI rs.length)) (.ref (am 1)) (.ref (am 2)) (.ref (am 3)) (.ref (am 4)) (.ref (am 5)) (.ref (am 6)) (.ref (am 7)) (.ref (am 8)) (.int (nI pm.length)) (.int (nI E.length)) (.int (nI S.length)) (.int (nI md)) (.int (nI ag)) (.int (nI (deadN S S.length))) (.int (anF ov)) (.int bw) (.ref (am 9)) (.ref (am 10)) (.ref (am 11)) (.ref (am 12)) (.ref (am 13)) (.ref (am 14)) (.ref (am 15)) (.ref (am 16)) (.ref (am 17)) (.ref (am 18)) (zv 0) (zv 1)) ([0]) rfl rfl (fun _ => Nat.le_of_ble_eq_true rfl) 0 rfl rfl rfl rfl hl.1 (Nat.le_of_ble_eq_true rfl) ⟨(by omega), (by omega)⟩ ⟨(by omega), (by omega)⟩ d_M_rule_58 (fun r u3 H locs hp hw1 => ?_)
                  obtain ⟨rfl, rfl⟩ := hp
                  refine W.cs (cells' := 0) (slots' := 0) rfl rfl ?_
                  replace hw : WW G A zs ([oM (am 0) [.int (nI 1), .int (nI n), .int (nI room), .int (nI Sx), .int (nI Kx), .int (nI rs.length), .ref (am 1), .ref (am 2), .ref (am 3), .ref (am 4), .ref (am 5), .ref (am 6), .ref (am 7), .ref (am 8), .int (nI pm.length), .int (nI E.length), .int (nI S.length), .int (nI md), .int (nI ag), .int (nI (deadN S S.length)), .int (anF ov), .int bw, .ref (am 9), .ref (am 10), .ref (am 11), .ref (am 12), .ref (am 13), .ref (am 14), .ref (am 15), .ref (am 16), .ref (am 17), .ref (am 18), zv 0, zv 1], aI G (am 1) 40 (fa 1), aI G (am 2) 40 (fa 2), aI G (am 3) 40 (fa 3), aI G (am 4) 40 (fa 4), aI G (am 5) 160 (fa 5), aI G (am 6) 160 (fa 6), aZ G (am 7) 64 (fa 7), aI G (am 8) 96 (fa 8), aI G (am 9) 98304 (fa 9), aI G (am 10) 8192 (fa 10), aI G (am 11) 8192 (fa 11), aI G (am 12) 8192 (fa 12), aI G (am 13) 8192 (fa 13), aI G (am 14) 8192 (fa 14), aI G (am 15) 8192 (fa 15), aI G (am 16) 12 (fa 16), aI G (am 17) 12 (fa 17), aI G (am 18) 12 (fa 18)]) H locs := hw1
                  refine r_if_eq (tgt := 66) hx hb (by omega) d_M_rule_61 (by decide) (fun c_61 => ?_) (fun c_61 => ?_)
                  · skip
                    exact absurd c_61 (by decide)
                  · skip
                    refine lv_iconst (v := nI 0) hx hb d_M_rule_64 rfl ?_
                    exact r_ret hQ (r_iret () hx hb hr hlk hw trivial (by omega) (by omega) d_M_rule_65)
      · skip
        refine xS_i (rest := [.ref (am 0)]) (As := [.int z, .int (nI Sx)]) hx hb hml hown hts hK hA hw k_M_113 (c_M_isOf zl G z (nI Sx)) ([]) rfl rfl (fun _ => Nat.le_of_ble_eq_true rfl) rfl rfl hl.1 (Nat.le_of_ble_eq_true rfl) ⟨(by omega), (by omega)⟩ ⟨(by omega), (by omega)⟩ d_M_rule_17 (fun r u H locs hp hw1 => ?_)
        rw [if_neg ho_17] at hp
        subst hp
        refine W.cs (cells' := 0) (slots' := 0) rfl rfl ?_
        replace hw : WW G A zs ([oM (am 0) [.int th, .int (nI n), .int (nI room), .int (nI Sx), .int (nI Kx), .int (nI rs.length), .ref (am 1), .ref (am 2), .ref (am 3), .ref (am 4), .ref (am 5), .ref (am 6), .ref (am 7), .ref (am 8), .int (nI pm.length), .int (nI E.length), .int (nI S.length), .int (nI md), .int (nI ag), .int (nI (deadN S S.length)), .int (anF ov), .int bw, .ref (am 9), .ref (am 10), .ref (am 11), .ref (am 12), .ref (am 13), .ref (am 14), .ref (am 15), .ref (am 16), .ref (am 17), .ref (am 18), zv 0, zv 1], aI G (am 1) 40 (fa 1), aI G (am 2) 40 (fa 2), aI G (am 3) 40 (fa 3), aI G (am 4) 40 (fa 4), aI G (am 5) 160 (fa 5), aI G (am 6) 160 (fa 6), aZ G (am 7) 64 (fa 7), aI G (am 8) 96 (fa 8), aI G (am 9) 98304 (fa 9), aI G (am 10) 8192 (fa 10), aI G (am 11) 8192 (fa 11), aI G (am 12) 8192 (fa 12), aI G (am 13) 8192 (fa 13), aI G (am 14) 8192 (fa 14), aI G (am 15) 8192 (fa 15), aI G (am 16) 12 (fa 16), aI G (am 17) 12 (fa 17), aI G (am 18) 12 (fa 18)]) H locs := hw1
        refine r_if_eq (tgt := 39) hx hb (by omega) d_M_rule_20 (by decide) (fun c_20 => ?_) (fun c_20 => ?_)
        · skip
          refine lv_iconst (v := nI 1) hx hb d_M_rule_39 rfl ?_
          refine lv_goto (tgt := 44) hx hb d_M_rule_40 (by decide) ?_
          refine lv_aload_n hx hb d_M_rule_44 rfl (lv_at hl 0 rfl) ?_
          refine g_M_117 hx hb hts hown hK hw 0 rfl rfl d_M_rule_45 ?_
          refine lv_bipush (v := nI 40) hx hb d_M_rule_48 (by decide) ?_
          refine r_icmp_ne (tgt := 57) hx hb (by omega) (by omega) d_M_rule_50 (by decide) (fun c_50 => ?_) (fun c_50 => ?_)
          · skip
            refine lv_iconst (v := nI 0) hx hb d_M_rule_57 rfl ?_
            refine xV_i (rest := []) (As := [.int (nI 1), .int (nI 0)]) hx hb hml hown hts hK hA hw k_M_103 (c_M_throwing zl G (am 0) th (nI 1) (nI 0) (.int (nI n)) (.int (nI room)) (.int (nI Sx)) (.int (nI Kx)) (.int (nI rs.length)) (.ref (am 1)) (.ref (am 2)) (.ref (am 3)) (.ref (am 4)) (.ref (am 5)) (.ref (am 6)) (.ref (am 7)) (.ref (am 8)) (.int (nI pm.length)) (.int (nI E.length)) (.int (nI S.length)) (.int (nI md)) (.int (nI ag)) (.int (nI (deadN S S.length))) (.int (anF ov)) (.int bw) (.ref (am 9)) (.ref (am 10)) (.ref (am 11)) (.ref (am 12)) (.ref (am 13)) (.ref (am 14)) (.ref (am 15)) (.ref (am 16)) (.ref (am 17)) (.ref (am 18)) (zv 0) (zv 1)) ([0]) rfl rfl (fun _ => Nat.le_of_ble_eq_true rfl) 0 rfl rfl rfl rfl hl.1 (Nat.le_of_ble_eq_true rfl) ⟨(by omega), (by omega)⟩ ⟨(by omega), (by omega)⟩ d_M_rule_58 (fun r u3 H locs hp hw1 => ?_)
            obtain ⟨rfl, rfl⟩ := hp
            refine W.cs (cells' := 0) (slots' := 0) rfl rfl ?_
            replace hw : WW G A zs ([oM (am 0) [.int (nI 1), .int (nI n), .int (nI room), .int (nI Sx), .int (nI Kx), .int (nI rs.length), .ref (am 1), .ref (am 2), .ref (am 3), .ref (am 4), .ref (am 5), .ref (am 6), .ref (am 7), .ref (am 8), .int (nI pm.length), .int (nI E.length), .int (nI S.length), .int (nI md), .int (nI ag), .int (nI (deadN S S.length)), .int (anF ov), .int bw, .ref (am 9), .ref (am 10), .ref (am 11), .ref (am 12), .ref (am 13), .ref (am 14), .ref (am 15), .ref (am 16), .ref (am 17), .ref (am 18), zv 0, zv 1], aI G (am 1) 40 (fa 1), aI G (am 2) 40 (fa 2), aI G (am 3) 40 (fa 3), aI G (am 4) 40 (fa 4), aI G (am 5) 160 (fa 5), aI G (am 6) 160 (fa 6), aZ G (am 7) 64 (fa 7), aI G (am 8) 96 (fa 8), aI G (am 9) 98304 (fa 9), aI G (am 10) 8192 (fa 10), aI G (am 11) 8192 (fa 11), aI G (am 12) 8192 (fa 12), aI G (am 13) 8192 (fa 13), aI G (am 14) 8192 (fa 14), aI G (am 15) 8192 (fa 15), aI G (am 16) 12 (fa 16), aI G (am 17) 12 (fa 17), aI G (am 18) 12 (fa 18)]) H locs := hw1
            refine r_if_eq (tgt := 66) hx hb (by omega) d_M_rule_61 (by decide) (fun c_61 => ?_) (fun c_61 => ?_)
            · skip
              exact absurd c_61 (by decide)
            · skip
              refine lv_iconst (v := nI 0) hx hb d_M_rule_64 rfl ?_
              exact r_ret hQ (r_iret () hx hb hr hlk hw trivial (by omega) (by omega) d_M_rule_65)
          · skip
            refine lv_iconst (v := nI 1) hx hb d_M_rule_53 rfl ?_
            refine lv_goto (tgt := 58) hx hb d_M_rule_54 (by decide) ?_
            refine xV_i (rest := []) (As := [.int (nI 1), .int (nI 1)]) hx hb hml hown hts hK hA hw k_M_103 (c_M_throwing zl G (am 0) th (nI 1) (nI 1) (.int (nI n)) (.int (nI room)) (.int (nI Sx)) (.int (nI Kx)) (.int (nI rs.length)) (.ref (am 1)) (.ref (am 2)) (.ref (am 3)) (.ref (am 4)) (.ref (am 5)) (.ref (am 6)) (.ref (am 7)) (.ref (am 8)) (.int (nI pm.length)) (.int (nI E.length)) (.int (nI S.length)) (.int (nI md)) (.int (nI ag)) (.int (nI (deadN S S.length))) (.int (anF ov)) (.int bw) (.ref (am 9)) (.ref (am 10)) (.ref (am 11)) (.ref (am 12)) (.ref (am 13)) (.ref (am 14)) (.ref (am 15)) (.ref (am 16)) (.ref (am 17)) (.ref (am 18)) (zv 0) (zv 1)) ([0]) rfl rfl (fun _ => Nat.le_of_ble_eq_true rfl) 0 rfl rfl rfl rfl hl.1 (Nat.le_of_ble_eq_true rfl) ⟨(by omega), (by omega)⟩ ⟨(by omega), (by omega)⟩ d_M_rule_58 (fun r u3 H locs hp hw1 => ?_)
            obtain ⟨rfl, rfl⟩ := hp
            refine W.cs (cells' := 0) (slots' := 0) rfl rfl ?_
            replace hw : WW G A zs ([oM (am 0) [.int (nI 1), .int (nI n), .int (nI room), .int (nI Sx), .int (nI Kx), .int (nI rs.length), .ref (am 1), .ref (am 2), .ref (am 3), .ref (am 4), .ref (am 5), .ref (am 6), .ref (am 7), .ref (am 8), .int (nI pm.length), .int (nI E.length), .int (nI S.length), .int (nI md), .int (nI ag), .int (nI (deadN S S.length)), .int (anF ov), .int bw, .ref (am 9), .ref (am 10), .ref (am 11), .ref (am 12), .ref (am 13), .ref (am 14), .ref (am 15), .ref (am 16), .ref (am 17), .ref (am 18), zv 0, zv 1], aI G (am 1) 40 (fa 1), aI G (am 2) 40 (fa 2), aI G (am 3) 40 (fa 3), aI G (am 4) 40 (fa 4), aI G (am 5) 160 (fa 5), aI G (am 6) 160 (fa 6), aZ G (am 7) 64 (fa 7), aI G (am 8) 96 (fa 8), aI G (am 9) 98304 (fa 9), aI G (am 10) 8192 (fa 10), aI G (am 11) 8192 (fa 11), aI G (am 12) 8192 (fa 12), aI G (am 13) 8192 (fa 13), aI G (am 14) 8192 (fa 14), aI G (am 15) 8192 (fa 15), aI G (am 16) 12 (fa 16), aI G (am 17) 12 (fa 17), aI G (am 18) 12 (fa 18)]) H locs := hw1
            refine r_if_eq (tgt := 66) hx hb (by omega) d_M_rule_61 (by decide) (fun c_61 => ?_) (fun c_61 => ?_)
            · skip
              exact absurd c_61 (by decide)
            · skip
              refine lv_iconst (v := nI 0) hx hb d_M_rule_64 rfl ?_
              exact r_ret hQ (r_iret () hx hb hr hlk hw trivial (by omega) (by omega) d_M_rule_65)
        · skip
          exact absurd c_20 (by decide)
  · skip
    refine xS_i (rest := [.ref (am 0)]) (As := [.int x, .int (nI Sx)]) hx hb hml hown hts hK hA hw k_M_113 (c_M_isOf zl G x (nI Sx)) ([]) rfl rfl (fun _ => Nat.le_of_ble_eq_true rfl) rfl rfl hl.1 (Nat.le_of_ble_eq_true rfl) ⟨(by omega), (by omega)⟩ ⟨(by omega), (by omega)⟩ d_M_rule_6 (fun r u H locs hp hw1 => ?_)
    rw [if_neg ho_6] at hp
    subst hp
    refine W.cs (cells' := 0) (slots' := 0) rfl rfl ?_
    replace hw : WW G A zs ([oM (am 0) [.int th, .int (nI n), .int (nI room), .int (nI Sx), .int (nI Kx), .int (nI rs.length), .ref (am 1), .ref (am 2), .ref (am 3), .ref (am 4), .ref (am 5), .ref (am 6), .ref (am 7), .ref (am 8), .int (nI pm.length), .int (nI E.length), .int (nI S.length), .int (nI md), .int (nI ag), .int (nI (deadN S S.length)), .int (anF ov), .int bw, .ref (am 9), .ref (am 10), .ref (am 11), .ref (am 12), .ref (am 13), .ref (am 14), .ref (am 15), .ref (am 16), .ref (am 17), .ref (am 18), zv 0, zv 1], aI G (am 1) 40 (fa 1), aI G (am 2) 40 (fa 2), aI G (am 3) 40 (fa 3), aI G (am 4) 40 (fa 4), aI G (am 5) 160 (fa 5), aI G (am 6) 160 (fa 6), aZ G (am 7) 64 (fa 7), aI G (am 8) 96 (fa 8), aI G (am 9) 98304 (fa 9), aI G (am 10) 8192 (fa 10), aI G (am 11) 8192 (fa 11), aI G (am 12) 8192 (fa 12), aI G (am 13) 8192 (fa 13), aI G (am 14) 8192 (fa 14), aI G (am 15) 8192 (fa 15), aI G (am 16) 12 (fa 16), aI G (am 17) 12 (fa 17), aI G (am 18) 12 (fa 18)]) H locs := hw1
    refine r_if_eq (tgt := 39) hx hb (by omega) d_M_rule_9 (by decide) (fun c_9 => ?_) (fun c_9 => ?_)
    · skip
      refine lv_iconst (v := nI 1) hx hb d_M_rule_39 rfl ?_
      refine lv_goto (tgt := 44) hx hb d_M_rule_40 (by decide) ?_
      refine lv_aload_n hx hb d_M_rule_44 rfl (lv_at hl 0 rfl) ?_
      refine g_M_117 hx hb hts hown hK hw 0 rfl rfl d_M_rule_45 ?_
      refine lv_bipush (v := nI 40) hx hb d_M_rule_48 (by decide) ?_
      refine r_icmp_ne (tgt := 57) hx hb (by omega) (by omega) d_M_rule_50 (by decide) (fun c_50 => ?_) (fun c_50 => ?_)
      · skip
        refine lv_iconst (v := nI 0) hx hb d_M_rule_57 rfl ?_
        refine xV_i (rest := []) (As := [.int (nI 1), .int (nI 0)]) hx hb hml hown hts hK hA hw k_M_103 (c_M_throwing zl G (am 0) th (nI 1) (nI 0) (.int (nI n)) (.int (nI room)) (.int (nI Sx)) (.int (nI Kx)) (.int (nI rs.length)) (.ref (am 1)) (.ref (am 2)) (.ref (am 3)) (.ref (am 4)) (.ref (am 5)) (.ref (am 6)) (.ref (am 7)) (.ref (am 8)) (.int (nI pm.length)) (.int (nI E.length)) (.int (nI S.length)) (.int (nI md)) (.int (nI ag)) (.int (nI (deadN S S.length))) (.int (anF ov)) (.int bw) (.ref (am 9)) (.ref (am 10)) (.ref (am 11)) (.ref (am 12)) (.ref (am 13)) (.ref (am 14)) (.ref (am 15)) (.ref (am 16)) (.ref (am 17)) (.ref (am 18)) (zv 0) (zv 1)) ([0]) rfl rfl (fun _ => Nat.le_of_ble_eq_true rfl) 0 rfl rfl rfl rfl hl.1 (Nat.le_of_ble_eq_true rfl) ⟨(by omega), (by omega)⟩ ⟨(by omega), (by omega)⟩ d_M_rule_58 (fun r u3 H locs hp hw1 => ?_)
        obtain ⟨rfl, rfl⟩ := hp
        refine W.cs (cells' := 0) (slots' := 0) rfl rfl ?_
        replace hw : WW G A zs ([oM (am 0) [.int (nI 1), .int (nI n), .int (nI room), .int (nI Sx), .int (nI Kx), .int (nI rs.length), .ref (am 1), .ref (am 2), .ref (am 3), .ref (am 4), .ref (am 5), .ref (am 6), .ref (am 7), .ref (am 8), .int (nI pm.length), .int (nI E.length), .int (nI S.length), .int (nI md), .int (nI ag), .int (nI (deadN S S.length)), .int (anF ov), .int bw, .ref (am 9), .ref (am 10), .ref (am 11), .ref (am 12), .ref (am 13), .ref (am 14), .ref (am 15), .ref (am 16), .ref (am 17), .ref (am 18), zv 0, zv 1], aI G (am 1) 40 (fa 1), aI G (am 2) 40 (fa 2), aI G (am 3) 40 (fa 3), aI G (am 4) 40 (fa 4), aI G (am 5) 160 (fa 5), aI G (am 6) 160 (fa 6), aZ G (am 7) 64 (fa 7), aI G (am 8) 96 (fa 8), aI G (am 9) 98304 (fa 9), aI G (am 10) 8192 (fa 10), aI G (am 11) 8192 (fa 11), aI G (am 12) 8192 (fa 12), aI G (am 13) 8192 (fa 13), aI G (am 14) 8192 (fa 14), aI G (am 15) 8192 (fa 15), aI G (am 16) 12 (fa 16), aI G (am 17) 12 (fa 17), aI G (am 18) 12 (fa 18)]) H locs := hw1
        refine r_if_eq (tgt := 66) hx hb (by omega) d_M_rule_61 (by decide) (fun c_61 => ?_) (fun c_61 => ?_)
        · skip
          exact absurd c_61 (by decide)
        · skip
          refine lv_iconst (v := nI 0) hx hb d_M_rule_64 rfl ?_
          exact r_ret hQ (r_iret () hx hb hr hlk hw trivial (by omega) (by omega) d_M_rule_65)
      · skip
        refine lv_iconst (v := nI 1) hx hb d_M_rule_53 rfl ?_
        refine lv_goto (tgt := 58) hx hb d_M_rule_54 (by decide) ?_
        refine xV_i (rest := []) (As := [.int (nI 1), .int (nI 1)]) hx hb hml hown hts hK hA hw k_M_103 (c_M_throwing zl G (am 0) th (nI 1) (nI 1) (.int (nI n)) (.int (nI room)) (.int (nI Sx)) (.int (nI Kx)) (.int (nI rs.length)) (.ref (am 1)) (.ref (am 2)) (.ref (am 3)) (.ref (am 4)) (.ref (am 5)) (.ref (am 6)) (.ref (am 7)) (.ref (am 8)) (.int (nI pm.length)) (.int (nI E.length)) (.int (nI S.length)) (.int (nI md)) (.int (nI ag)) (.int (nI (deadN S S.length))) (.int (anF ov)) (.int bw) (.ref (am 9)) (.ref (am 10)) (.ref (am 11)) (.ref (am 12)) (.ref (am 13)) (.ref (am 14)) (.ref (am 15)) (.ref (am 16)) (.ref (am 17)) (.ref (am 18)) (zv 0) (zv 1)) ([0]) rfl rfl (fun _ => Nat.le_of_ble_eq_true rfl) 0 rfl rfl rfl rfl hl.1 (Nat.le_of_ble_eq_true rfl) ⟨(by omega), (by omega)⟩ ⟨(by omega), (by omega)⟩ d_M_rule_58 (fun r u3 H locs hp hw1 => ?_)
        obtain ⟨rfl, rfl⟩ := hp
        refine W.cs (cells' := 0) (slots' := 0) rfl rfl ?_
        replace hw : WW G A zs ([oM (am 0) [.int (nI 1), .int (nI n), .int (nI room), .int (nI Sx), .int (nI Kx), .int (nI rs.length), .ref (am 1), .ref (am 2), .ref (am 3), .ref (am 4), .ref (am 5), .ref (am 6), .ref (am 7), .ref (am 8), .int (nI pm.length), .int (nI E.length), .int (nI S.length), .int (nI md), .int (nI ag), .int (nI (deadN S S.length)), .int (anF ov), .int bw, .ref (am 9), .ref (am 10), .ref (am 11), .ref (am 12), .ref (am 13), .ref (am 14), .ref (am 15), .ref (am 16), .ref (am 17), .ref (am 18), zv 0, zv 1], aI G (am 1) 40 (fa 1), aI G (am 2) 40 (fa 2), aI G (am 3) 40 (fa 3), aI G (am 4) 40 (fa 4), aI G (am 5) 160 (fa 5), aI G (am 6) 160 (fa 6), aZ G (am 7) 64 (fa 7), aI G (am 8) 96 (fa 8), aI G (am 9) 98304 (fa 9), aI G (am 10) 8192 (fa 10), aI G (am 11) 8192 (fa 11), aI G (am 12) 8192 (fa 12), aI G (am 13) 8192 (fa 13), aI G (am 14) 8192 (fa 14), aI G (am 15) 8192 (fa 15), aI G (am 16) 12 (fa 16), aI G (am 17) 12 (fa 17), aI G (am 18) 12 (fa 18)]) H locs := hw1
        refine r_if_eq (tgt := 66) hx hb (by omega) d_M_rule_61 (by decide) (fun c_61 => ?_) (fun c_61 => ?_)
        · skip
          exact absurd c_61 (by decide)
        · skip
          refine lv_iconst (v := nI 0) hx hb d_M_rule_64 rfl ?_
          exact r_ret hQ (r_iret () hx hb hr hlk hw trivial (by omega) (by omega) d_M_rule_65)
    · skip
      exact absurd c_9 (by decide)
set_option maxHeartbeats 4000000 in
set_option maxRecDepth 100000 in
theorem c_M_ruleY (zl : Launch) (G : GG) (am : Nat → Nat) (fa : Nat → Nat → Int32) (zv : Nat → Value) (th bw : Int32) (n room Sx Kx : Nat) (ps pm : List (List Nat)) (B : Nat → Bool) (rs : List Rl) (E : List Ent) (S : List Nat) (md ag ov : Nat) (x y z : Int32) (hMC : MC n ps pm B fa) (hrl : MRl rs fa) (hok : (0 ≤ x ∧ x < nI Sx) ∧ (0 ≤ z ∧ z < nI Sx) ∧ (y = -1 ∨ (0 ≤ y ∧ y < nI Kx))) (hfull : rs.length = 40) : Ctr (S := Unit) vI zl y_M_rule b_M_rule 4 (Option.some Jvm.ClassFile.FieldType.int) 1 0 0 G [.ref (am 0), .int x, .int y, .int z] ([oM (am 0) [.int th, .int (nI n), .int (nI room), .int (nI Sx), .int (nI Kx), .int (nI rs.length), .ref (am 1), .ref (am 2), .ref (am 3), .ref (am 4), .ref (am 5), .ref (am 6), .ref (am 7), .ref (am 8), .int (nI pm.length), .int (nI E.length), .int (nI S.length), .int (nI md), .int (nI ag), .int (nI (deadN S S.length)), .int (anF ov), .int bw, .ref (am 9), .ref (am 10), .ref (am 11), .ref (am 12), .ref (am 13), .ref (am 14), .ref (am 15), .ref (am 16), .ref (am 17), .ref (am 18), zv 0, zv 1], aI G (am 1) 40 (fa 1), aI G (am 2) 40 (fa 2), aI G (am 3) 40 (fa 3), aI G (am 4) 40 (fa 4), aI G (am 5) 160 (fa 5), aI G (am 6) 160 (fa 6), aZ G (am 7) 64 (fa 7), aI G (am 8) 96 (fa 8), aI G (am 9) 98304 (fa 9), aI G (am 10) 8192 (fa 10), aI G (am 11) 8192 (fa 11), aI G (am 12) 8192 (fa 12), aI G (am 13) 8192 (fa 13), aI G (am 14) 8192 (fa 14), aI G (am 15) 8192 (fa 15), aI G (am 16) 12 (fa 16), aI G (am 17) 12 (fa 17), aI G (am 18) 12 (fa 18)]) (fun _ _ => True) (fun _ => [oM (am 0) [.int (nI 2), .int (nI n), .int (nI room), .int (nI Sx), .int (nI Kx), .int (nI rs.length), .ref (am 1), .ref (am 2), .ref (am 3), .ref (am 4), .ref (am 5), .ref (am 6), .ref (am 7), .ref (am 8), .int (nI pm.length), .int (nI E.length), .int (nI S.length), .int (nI md), .int (nI ag), .int (nI (deadN S S.length)), .int (anF ov), .int bw, .ref (am 9), .ref (am 10), .ref (am 11), .ref (am 12), .ref (am 13), .ref (am 14), .ref (am 15), .ref (am 16), .ref (am 17), .ref (am 18), zv 0, zv 1], aI G (am 1) 40 (fa 1), aI G (am 2) 40 (fa 2), aI G (am 3) 40 (fa 3), aI G (am 4) 40 (fa 4), aI G (am 5) 160 (fa 5), aI G (am 6) 160 (fa 6), aZ G (am 7) 64 (fa 7), aI G (am 8) 96 (fa 8), aI G (am 9) 98304 (fa 9), aI G (am 10) 8192 (fa 10), aI G (am 11) 8192 (fa 11), aI G (am 12) 8192 (fa 12), aI G (am 13) 8192 (fa 13), aI G (am 14) 8192 (fa 14), aI G (am 15) 8192 (fa 15), aI G (am 16) 12 (fa 16), aI G (am 17) 12 (fa 17), aI G (am 18) 12 (fa 18)]) := by
  refine Ctr.start (by decide) (Nat.le_of_ble_eq_true rfl) ?_
  intro zp ze zs zm below meth zc A ls C0 hin hK hA hl hw
  obtain ⟨hx, hb, hr, hlk, hml, hown, hts⟩ := C0
  obtain ⟨R, hRR⟩ : ∃ R : Room, R = rmL 1 0 0 := ⟨_, rfl⟩
  have hRf : R.frames = 1 := by rw [hRR]
  have hRl : R.locals = 64 * 1 := by rw [hRR]
  have hRc : R.cells = 0 := by rw [hRR]
  have hRs : R.slots = 0 := by rw [hRR]
  rw [← hRR]; clear hRR
  generalize hQ : MQ below _ _ zs _ _ A = Q
  generalize hAr : List.toArray _ = args at hts hQ ⊢
  replace hl : lv_has ls 4 [(0, .ref (am 0)), (1, .int x), (2, .int y), (3, .int z)] := hl
  obtain ⟨H, eH⟩ : ∃ H : Heap, H = zs.heap := ⟨_, rfl⟩
  obtain ⟨locs, eL⟩ : ∃ l0 : List Loc, l0 = [] := ⟨_, rfl⟩
  rw [← eH, ← eL] at hw ⊢; clear eH eL
  have hrll := hrl.1
  refine lv_aload_n hx hb d_M_rule_0 rfl (lv_at hl 0 rfl) ?_
  refine lv_iload_n hx hb d_M_rule_1 rfl (lv_at hl 1 rfl) ?_
  refine lv_aload_n hx hb d_M_rule_2 rfl (lv_at hl 0 rfl) ?_
  refine g_M_7 hx hb hts hown hK hw 0 rfl rfl d_M_rule_3 ?_
  by_cases ho_6 : 0 ≤ x ∧ x < nI Sx
  · skip
    refine xS_i (rest := [.ref (am 0)]) (As := [.int x, .int (nI Sx)]) hx hb hml hown hts hK hA hw k_M_113 (c_M_isOf zl G x (nI Sx)) ([]) rfl rfl (fun _ => Nat.le_of_ble_eq_true rfl) rfl rfl hl.1 (Nat.le_of_ble_eq_true rfl) ⟨(by omega), (by omega)⟩ ⟨(by omega), (by omega)⟩ d_M_rule_6 (fun r u H locs hp hw1 => ?_)
    rw [if_pos ho_6] at hp
    subst hp
    refine W.cs (cells' := 0) (slots' := 0) rfl rfl ?_
    replace hw : WW G A zs ([oM (am 0) [.int th, .int (nI n), .int (nI room), .int (nI Sx), .int (nI Kx), .int (nI rs.length), .ref (am 1), .ref (am 2), .ref (am 3), .ref (am 4), .ref (am 5), .ref (am 6), .ref (am 7), .ref (am 8), .int (nI pm.length), .int (nI E.length), .int (nI S.length), .int (nI md), .int (nI ag), .int (nI (deadN S S.length)), .int (anF ov), .int bw, .ref (am 9), .ref (am 10), .ref (am 11), .ref (am 12), .ref (am 13), .ref (am 14), .ref (am 15), .ref (am 16), .ref (am 17), .ref (am 18), zv 0, zv 1], aI G (am 1) 40 (fa 1), aI G (am 2) 40 (fa 2), aI G (am 3) 40 (fa 3), aI G (am 4) 40 (fa 4), aI G (am 5) 160 (fa 5), aI G (am 6) 160 (fa 6), aZ G (am 7) 64 (fa 7), aI G (am 8) 96 (fa 8), aI G (am 9) 98304 (fa 9), aI G (am 10) 8192 (fa 10), aI G (am 11) 8192 (fa 11), aI G (am 12) 8192 (fa 12), aI G (am 13) 8192 (fa 13), aI G (am 14) 8192 (fa 14), aI G (am 15) 8192 (fa 15), aI G (am 16) 12 (fa 16), aI G (am 17) 12 (fa 17), aI G (am 18) 12 (fa 18)]) H locs := hw1
    refine r_if_eq (tgt := 39) hx hb (by omega) d_M_rule_9 (by decide) (fun c_9 => ?_) (fun c_9 => ?_)
    · skip
      exact absurd c_9 (by decide)
    · skip
      refine lv_iload_n hx hb d_M_rule_12 rfl (lv_at hl 3 rfl) ?_
      refine lv_aload_n hx hb d_M_rule_13 rfl (lv_at hl 0 rfl) ?_
      refine g_M_7 hx hb hts hown hK hw 0 rfl rfl d_M_rule_14 ?_
      by_cases ho_17 : 0 ≤ z ∧ z < nI Sx
      · skip
        refine xS_i (rest := [.ref (am 0)]) (As := [.int z, .int (nI Sx)]) hx hb hml hown hts hK hA hw k_M_113 (c_M_isOf zl G z (nI Sx)) ([]) rfl rfl (fun _ => Nat.le_of_ble_eq_true rfl) rfl rfl hl.1 (Nat.le_of_ble_eq_true rfl) ⟨(by omega), (by omega)⟩ ⟨(by omega), (by omega)⟩ d_M_rule_17 (fun r u H locs hp hw1 => ?_)
        rw [if_pos ho_17] at hp
        subst hp
        refine W.cs (cells' := 0) (slots' := 0) rfl rfl ?_
        replace hw : WW G A zs ([oM (am 0) [.int th, .int (nI n), .int (nI room), .int (nI Sx), .int (nI Kx), .int (nI rs.length), .ref (am 1), .ref (am 2), .ref (am 3), .ref (am 4), .ref (am 5), .ref (am 6), .ref (am 7), .ref (am 8), .int (nI pm.length), .int (nI E.length), .int (nI S.length), .int (nI md), .int (nI ag), .int (nI (deadN S S.length)), .int (anF ov), .int bw, .ref (am 9), .ref (am 10), .ref (am 11), .ref (am 12), .ref (am 13), .ref (am 14), .ref (am 15), .ref (am 16), .ref (am 17), .ref (am 18), zv 0, zv 1], aI G (am 1) 40 (fa 1), aI G (am 2) 40 (fa 2), aI G (am 3) 40 (fa 3), aI G (am 4) 40 (fa 4), aI G (am 5) 160 (fa 5), aI G (am 6) 160 (fa 6), aZ G (am 7) 64 (fa 7), aI G (am 8) 96 (fa 8), aI G (am 9) 98304 (fa 9), aI G (am 10) 8192 (fa 10), aI G (am 11) 8192 (fa 11), aI G (am 12) 8192 (fa 12), aI G (am 13) 8192 (fa 13), aI G (am 14) 8192 (fa 14), aI G (am 15) 8192 (fa 15), aI G (am 16) 12 (fa 16), aI G (am 17) 12 (fa 17), aI G (am 18) 12 (fa 18)]) H locs := hw1
        refine r_if_eq (tgt := 39) hx hb (by omega) d_M_rule_20 (by decide) (fun c_20 => ?_) (fun c_20 => ?_)
        · skip
          exact absurd c_20 (by decide)
        · skip
          refine lv_iload_n hx hb d_M_rule_23 rfl (lv_at hl 2 rfl) ?_
          refine lv_iconst (v := -1) hx hb d_M_rule_24 (by decide) ?_
          refine lv_icmp_eq (tgt := 43) hx hb d_M_rule_25 (by decide) (fun c_25 => ?_) (fun c_25 => ?_)
          · skip
            refine lv_iconst (v := nI 0) hx hb d_M_rule_43 rfl ?_
            refine lv_aload_n hx hb d_M_rule_44 rfl (lv_at hl 0 rfl) ?_
            refine g_M_117 hx hb hts hown hK hw 0 rfl rfl d_M_rule_45 ?_
            refine lv_bipush (v := nI 40) hx hb d_M_rule_48 (by decide) ?_
            refine r_icmp_ne (tgt := 57) hx hb (by omega) (by omega) d_M_rule_50 (by decide) (fun c_50 => ?_) (fun c_50 => ?_)
            · skip
              exfalso; omega
            · skip
              refine lv_iconst (v := nI 1) hx hb d_M_rule_53 rfl ?_
              refine lv_goto (tgt := 58) hx hb d_M_rule_54 (by decide) ?_
              refine xV_i (rest := []) (As := [.int (nI 0), .int (nI 1)]) hx hb hml hown hts hK hA hw k_M_103 (c_M_throwing zl G (am 0) th (nI 0) (nI 1) (.int (nI n)) (.int (nI room)) (.int (nI Sx)) (.int (nI Kx)) (.int (nI rs.length)) (.ref (am 1)) (.ref (am 2)) (.ref (am 3)) (.ref (am 4)) (.ref (am 5)) (.ref (am 6)) (.ref (am 7)) (.ref (am 8)) (.int (nI pm.length)) (.int (nI E.length)) (.int (nI S.length)) (.int (nI md)) (.int (nI ag)) (.int (nI (deadN S S.length))) (.int (anF ov)) (.int bw) (.ref (am 9)) (.ref (am 10)) (.ref (am 11)) (.ref (am 12)) (.ref (am 13)) (.ref (am 14)) (.ref (am 15)) (.ref (am 16)) (.ref (am 17)) (.ref (am 18)) (zv 0) (zv 1)) ([0]) rfl rfl (fun _ => Nat.le_of_ble_eq_true rfl) 0 rfl rfl rfl rfl hl.1 (Nat.le_of_ble_eq_true rfl) ⟨(by omega), (by omega)⟩ ⟨(by omega), (by omega)⟩ d_M_rule_58 (fun r u3 H locs hp hw1 => ?_)
              obtain ⟨rfl, rfl⟩ := hp
              refine W.cs (cells' := 0) (slots' := 0) rfl rfl ?_
              replace hw : WW G A zs ([oM (am 0) [.int (nI 2), .int (nI n), .int (nI room), .int (nI Sx), .int (nI Kx), .int (nI rs.length), .ref (am 1), .ref (am 2), .ref (am 3), .ref (am 4), .ref (am 5), .ref (am 6), .ref (am 7), .ref (am 8), .int (nI pm.length), .int (nI E.length), .int (nI S.length), .int (nI md), .int (nI ag), .int (nI (deadN S S.length)), .int (anF ov), .int bw, .ref (am 9), .ref (am 10), .ref (am 11), .ref (am 12), .ref (am 13), .ref (am 14), .ref (am 15), .ref (am 16), .ref (am 17), .ref (am 18), zv 0, zv 1], aI G (am 1) 40 (fa 1), aI G (am 2) 40 (fa 2), aI G (am 3) 40 (fa 3), aI G (am 4) 40 (fa 4), aI G (am 5) 160 (fa 5), aI G (am 6) 160 (fa 6), aZ G (am 7) 64 (fa 7), aI G (am 8) 96 (fa 8), aI G (am 9) 98304 (fa 9), aI G (am 10) 8192 (fa 10), aI G (am 11) 8192 (fa 11), aI G (am 12) 8192 (fa 12), aI G (am 13) 8192 (fa 13), aI G (am 14) 8192 (fa 14), aI G (am 15) 8192 (fa 15), aI G (am 16) 12 (fa 16), aI G (am 17) 12 (fa 17), aI G (am 18) 12 (fa 18)]) H locs := hw1
              refine r_if_eq (tgt := 66) hx hb (by omega) d_M_rule_61 (by decide) (fun c_61 => ?_) (fun c_61 => ?_)
              · skip
                exact absurd c_61 (by decide)
              · skip
                refine lv_iconst (v := nI 0) hx hb d_M_rule_64 rfl ?_
                exact r_ret hQ (r_iret () hx hb hr hlk hw trivial (by omega) (by omega) d_M_rule_65)
          · skip
            refine lv_iload_n hx hb d_M_rule_28 rfl (lv_at hl 2 rfl) ?_
            refine lv_aload_n hx hb d_M_rule_29 rfl (lv_at hl 0 rfl) ?_
            refine g_M_110 hx hb hts hown hK hw 0 rfl rfl d_M_rule_30 ?_
            by_cases ho_33 : 0 ≤ y ∧ y < nI Kx
            · skip
              refine xS_i (rest := [.ref (am 0)]) (As := [.int y, .int (nI Kx)]) hx hb hml hown hts hK hA hw k_M_113 (c_M_isOf zl G y (nI Kx)) ([]) rfl rfl (fun _ => Nat.le_of_ble_eq_true rfl) rfl rfl hl.1 (Nat.le_of_ble_eq_true rfl) ⟨(by omega), (by omega)⟩ ⟨(by omega), (by omega)⟩ d_M_rule_33 (fun r u H locs hp hw1 => ?_)
              rw [if_pos ho_33] at hp
              subst hp
              refine W.cs (cells' := 0) (slots' := 0) rfl rfl ?_
              replace hw : WW G A zs ([oM (am 0) [.int th, .int (nI n), .int (nI room), .int (nI Sx), .int (nI Kx), .int (nI rs.length), .ref (am 1), .ref (am 2), .ref (am 3), .ref (am 4), .ref (am 5), .ref (am 6), .ref (am 7), .ref (am 8), .int (nI pm.length), .int (nI E.length), .int (nI S.length), .int (nI md), .int (nI ag), .int (nI (deadN S S.length)), .int (anF ov), .int bw, .ref (am 9), .ref (am 10), .ref (am 11), .ref (am 12), .ref (am 13), .ref (am 14), .ref (am 15), .ref (am 16), .ref (am 17), .ref (am 18), zv 0, zv 1], aI G (am 1) 40 (fa 1), aI G (am 2) 40 (fa 2), aI G (am 3) 40 (fa 3), aI G (am 4) 40 (fa 4), aI G (am 5) 160 (fa 5), aI G (am 6) 160 (fa 6), aZ G (am 7) 64 (fa 7), aI G (am 8) 96 (fa 8), aI G (am 9) 98304 (fa 9), aI G (am 10) 8192 (fa 10), aI G (am 11) 8192 (fa 11), aI G (am 12) 8192 (fa 12), aI G (am 13) 8192 (fa 13), aI G (am 14) 8192 (fa 14), aI G (am 15) 8192 (fa 15), aI G (am 16) 12 (fa 16), aI G (am 17) 12 (fa 17), aI G (am 18) 12 (fa 18)]) H locs := hw1
              refine r_if_ne (tgt := 43) hx hb (by omega) d_M_rule_36 (by decide) (fun c_36 => ?_) (fun c_36 => ?_)
              · skip
                refine lv_iconst (v := nI 0) hx hb d_M_rule_43 rfl ?_
                refine lv_aload_n hx hb d_M_rule_44 rfl (lv_at hl 0 rfl) ?_
                refine g_M_117 hx hb hts hown hK hw 0 rfl rfl d_M_rule_45 ?_
                refine lv_bipush (v := nI 40) hx hb d_M_rule_48 (by decide) ?_
                refine r_icmp_ne (tgt := 57) hx hb (by omega) (by omega) d_M_rule_50 (by decide) (fun c_50 => ?_) (fun c_50 => ?_)
                · skip
                  exfalso; omega
                · skip
                  refine lv_iconst (v := nI 1) hx hb d_M_rule_53 rfl ?_
                  refine lv_goto (tgt := 58) hx hb d_M_rule_54 (by decide) ?_
                  refine xV_i (rest := []) (As := [.int (nI 0), .int (nI 1)]) hx hb hml hown hts hK hA hw k_M_103 (c_M_throwing zl G (am 0) th (nI 0) (nI 1) (.int (nI n)) (.int (nI room)) (.int (nI Sx)) (.int (nI Kx)) (.int (nI rs.length)) (.ref (am 1)) (.ref (am 2)) (.ref (am 3)) (.ref (am 4)) (.ref (am 5)) (.ref (am 6)) (.ref (am 7)) (.ref (am 8)) (.int (nI pm.length)) (.int (nI E.length)) (.int (nI S.length)) (.int (nI md)) (.int (nI ag)) (.int (nI (deadN S S.length))) (.int (anF ov)) (.int bw) (.ref (am 9)) (.ref (am 10)) (.ref (am 11)) (.ref (am 12)) (.ref (am 13)) (.ref (am 14)) (.ref (am 15)) (.ref (am 16)) (.ref (am 17)) (.ref (am 18)) (zv 0) (zv 1)) ([0]) rfl rfl (fun _ => Nat.le_of_ble_eq_true rfl) 0 rfl rfl rfl rfl hl.1 (Nat.le_of_ble_eq_true rfl) ⟨(by omega), (by omega)⟩ ⟨(by omega), (by omega)⟩ d_M_rule_58 (fun r u3 H locs hp hw1 => ?_)
                  obtain ⟨rfl, rfl⟩ := hp
                  refine W.cs (cells' := 0) (slots' := 0) rfl rfl ?_
                  replace hw : WW G A zs ([oM (am 0) [.int (nI 2), .int (nI n), .int (nI room), .int (nI Sx), .int (nI Kx), .int (nI rs.length), .ref (am 1), .ref (am 2), .ref (am 3), .ref (am 4), .ref (am 5), .ref (am 6), .ref (am 7), .ref (am 8), .int (nI pm.length), .int (nI E.length), .int (nI S.length), .int (nI md), .int (nI ag), .int (nI (deadN S S.length)), .int (anF ov), .int bw, .ref (am 9), .ref (am 10), .ref (am 11), .ref (am 12), .ref (am 13), .ref (am 14), .ref (am 15), .ref (am 16), .ref (am 17), .ref (am 18), zv 0, zv 1], aI G (am 1) 40 (fa 1), aI G (am 2) 40 (fa 2), aI G (am 3) 40 (fa 3), aI G (am 4) 40 (fa 4), aI G (am 5) 160 (fa 5), aI G (am 6) 160 (fa 6), aZ G (am 7) 64 (fa 7), aI G (am 8) 96 (fa 8), aI G (am 9) 98304 (fa 9), aI G (am 10) 8192 (fa 10), aI G (am 11) 8192 (fa 11), aI G (am 12) 8192 (fa 12), aI G (am 13) 8192 (fa 13), aI G (am 14) 8192 (fa 14), aI G (am 15) 8192 (fa 15), aI G (am 16) 12 (fa 16), aI G (am 17) 12 (fa 17), aI G (am 18) 12 (fa 18)]) H locs := hw1
                  refine r_if_eq (tgt := 66) hx hb (by omega) d_M_rule_61 (by decide) (fun c_61 => ?_) (fun c_61 => ?_)
                  · skip
                    exact absurd c_61 (by decide)
                  · skip
                    refine lv_iconst (v := nI 0) hx hb d_M_rule_64 rfl ?_
                    exact r_ret hQ (r_iret () hx hb hr hlk hw trivial (by omega) (by omega) d_M_rule_65)
              · skip
                exact absurd c_36 (by decide)
            · skip
              refine xS_i (rest := [.ref (am 0)]) (As := [.int y, .int (nI Kx)]) hx hb hml hown hts hK hA hw k_M_113 (c_M_isOf zl G y (nI Kx)) ([]) rfl rfl (fun _ => Nat.le_of_ble_eq_true rfl) rfl rfl hl.1 (Nat.le_of_ble_eq_true rfl) ⟨(by omega), (by omega)⟩ ⟨(by omega), (by omega)⟩ d_M_rule_33 (fun r u H locs hp hw1 => ?_)
              rw [if_neg ho_33] at hp
              subst hp
              refine W.cs (cells' := 0) (slots' := 0) rfl rfl ?_
              replace hw : WW G A zs ([oM (am 0) [.int th, .int (nI n), .int (nI room), .int (nI Sx), .int (nI Kx), .int (nI rs.length), .ref (am 1), .ref (am 2), .ref (am 3), .ref (am 4), .ref (am 5), .ref (am 6), .ref (am 7), .ref (am 8), .int (nI pm.length), .int (nI E.length), .int (nI S.length), .int (nI md), .int (nI ag), .int (nI (deadN S S.length)), .int (anF ov), .int bw, .ref (am 9), .ref (am 10), .ref (am 11), .ref (am 12), .ref (am 13), .ref (am 14), .ref (am 15), .ref (am 16), .ref (am 17), .ref (am 18), zv 0, zv 1], aI G (am 1) 40 (fa 1), aI G (am 2) 40 (fa 2), aI G (am 3) 40 (fa 3), aI G (am 4) 40 (fa 4), aI G (am 5) 160 (fa 5), aI G (am 6) 160 (fa 6), aZ G (am 7) 64 (fa 7), aI G (am 8) 96 (fa 8), aI G (am 9) 98304 (fa 9), aI G (am 10) 8192 (fa 10), aI G (am 11) 8192 (fa 11), aI G (am 12) 8192 (fa 12), aI G (am 13) 8192 (fa 13), aI G (am 14) 8192 (fa 14), aI G (am 15) 8192 (fa 15), aI G (am 16) 12 (fa 16), aI G (am 17) 12 (fa 17), aI G (am 18) 12 (fa 18)]) H locs := hw1
              refine r_if_ne (tgt := 43) hx hb (by omega) d_M_rule_36 (by decide) (fun c_36 => ?_) (fun c_36 => ?_)
              · skip
                exact absurd c_36 (by decide)
              · skip
                exact absurd (hok.2.2.resolve_left c_25) ho_33
      · skip
        refine xS_i (rest := [.ref (am 0)]) (As := [.int z, .int (nI Sx)]) hx hb hml hown hts hK hA hw k_M_113 (c_M_isOf zl G z (nI Sx)) ([]) rfl rfl (fun _ => Nat.le_of_ble_eq_true rfl) rfl rfl hl.1 (Nat.le_of_ble_eq_true rfl) ⟨(by omega), (by omega)⟩ ⟨(by omega), (by omega)⟩ d_M_rule_17 (fun r u H locs hp hw1 => ?_)
        rw [if_neg ho_17] at hp
        subst hp
        refine W.cs (cells' := 0) (slots' := 0) rfl rfl ?_
        replace hw : WW G A zs ([oM (am 0) [.int th, .int (nI n), .int (nI room), .int (nI Sx), .int (nI Kx), .int (nI rs.length), .ref (am 1), .ref (am 2), .ref (am 3), .ref (am 4), .ref (am 5), .ref (am 6), .ref (am 7), .ref (am 8), .int (nI pm.length), .int (nI E.length), .int (nI S.length), .int (nI md), .int (nI ag), .int (nI (deadN S S.length)), .int (anF ov), .int bw, .ref (am 9), .ref (am 10), .ref (am 11), .ref (am 12), .ref (am 13), .ref (am 14), .ref (am 15), .ref (am 16), .ref (am 17), .ref (am 18), zv 0, zv 1], aI G (am 1) 40 (fa 1), aI G (am 2) 40 (fa 2), aI G (am 3) 40 (fa 3), aI G (am 4) 40 (fa 4), aI G (am 5) 160 (fa 5), aI G (am 6) 160 (fa 6), aZ G (am 7) 64 (fa 7), aI G (am 8) 96 (fa 8), aI G (am 9) 98304 (fa 9), aI G (am 10) 8192 (fa 10), aI G (am 11) 8192 (fa 11), aI G (am 12) 8192 (fa 12), aI G (am 13) 8192 (fa 13), aI G (am 14) 8192 (fa 14), aI G (am 15) 8192 (fa 15), aI G (am 16) 12 (fa 16), aI G (am 17) 12 (fa 17), aI G (am 18) 12 (fa 18)]) H locs := hw1
        refine r_if_eq (tgt := 39) hx hb (by omega) d_M_rule_20 (by decide) (fun c_20 => ?_) (fun c_20 => ?_)
        · skip
          exact absurd hok.2.1 ho_17
        · skip
          exact absurd c_20 (by decide)
  · skip
    refine xS_i (rest := [.ref (am 0)]) (As := [.int x, .int (nI Sx)]) hx hb hml hown hts hK hA hw k_M_113 (c_M_isOf zl G x (nI Sx)) ([]) rfl rfl (fun _ => Nat.le_of_ble_eq_true rfl) rfl rfl hl.1 (Nat.le_of_ble_eq_true rfl) ⟨(by omega), (by omega)⟩ ⟨(by omega), (by omega)⟩ d_M_rule_6 (fun r u H locs hp hw1 => ?_)
    rw [if_neg ho_6] at hp
    subst hp
    refine W.cs (cells' := 0) (slots' := 0) rfl rfl ?_
    replace hw : WW G A zs ([oM (am 0) [.int th, .int (nI n), .int (nI room), .int (nI Sx), .int (nI Kx), .int (nI rs.length), .ref (am 1), .ref (am 2), .ref (am 3), .ref (am 4), .ref (am 5), .ref (am 6), .ref (am 7), .ref (am 8), .int (nI pm.length), .int (nI E.length), .int (nI S.length), .int (nI md), .int (nI ag), .int (nI (deadN S S.length)), .int (anF ov), .int bw, .ref (am 9), .ref (am 10), .ref (am 11), .ref (am 12), .ref (am 13), .ref (am 14), .ref (am 15), .ref (am 16), .ref (am 17), .ref (am 18), zv 0, zv 1], aI G (am 1) 40 (fa 1), aI G (am 2) 40 (fa 2), aI G (am 3) 40 (fa 3), aI G (am 4) 40 (fa 4), aI G (am 5) 160 (fa 5), aI G (am 6) 160 (fa 6), aZ G (am 7) 64 (fa 7), aI G (am 8) 96 (fa 8), aI G (am 9) 98304 (fa 9), aI G (am 10) 8192 (fa 10), aI G (am 11) 8192 (fa 11), aI G (am 12) 8192 (fa 12), aI G (am 13) 8192 (fa 13), aI G (am 14) 8192 (fa 14), aI G (am 15) 8192 (fa 15), aI G (am 16) 12 (fa 16), aI G (am 17) 12 (fa 17), aI G (am 18) 12 (fa 18)]) H locs := hw1
    refine r_if_eq (tgt := 39) hx hb (by omega) d_M_rule_9 (by decide) (fun c_9 => ?_) (fun c_9 => ?_)
    · skip
      exact absurd hok.1 ho_6
    · skip
      exact absurd c_9 (by decide)
