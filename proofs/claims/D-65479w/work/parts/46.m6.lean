set_option maxHeartbeats 4000000 in
set_option maxRecDepth 100000 in
theorem c_M_step (zl : Launch) (G : GG) (am : Nat → Nat) (fa : Nat → Nat → Int32) (zv : Nat → Value) (th bw : Int32) (n room Sx Kx : Nat) (ps pm : List (List Nat)) (B : Nat → Bool) (rs : List Rl) (E E1 : List Ent) (S : List Nat) (md ag ag1 ov1 wi ri : Nat) (w : Wh) (hMC : MC n ps pm B fa) (hE : EOK n room E) (hSE : S.length ≤ E.length) (hMR : MR E S fa) (hV : Vl n w) (hx9 : Row (fa 16) 0 w) (hwi : wi < E.length) (hc : comeA ps B n room E ag w (nI wi) (nI ri) = (E1, ag1, ov1)) : Ctr (S := (Nat → Nat → Int32) × Int32 × (Nat → Value)) vI zl y_M_step b_M_step 3 (Option.some Jvm.ClassFile.FieldType.boolean) 3 0 0 G [.ref (am 0), .int (nI wi), .int (nI ri)] ([oM (am 0) [.int th, .int (nI n), .int (nI room), .int (nI Sx), .int (nI Kx), .int (nI rs.length), .ref (am 1), .ref (am 2), .ref (am 3), .ref (am 4), .ref (am 5), .ref (am 6), .ref (am 7), .ref (am 8), .int (nI pm.length), .int (nI E.length), .int (nI S.length), .int (nI md), .int (nI ag), .int (nI (deadN S S.length)), .int (nI 0), .int bw, .ref (am 9), .ref (am 10), .ref (am 11), .ref (am 12), .ref (am 13), .ref (am 14), .ref (am 15), .ref (am 16), .ref (am 17), .ref (am 18), zv 0, zv 1], aI G (am 1) 40 (fa 1), aI G (am 2) 40 (fa 2), aI G (am 3) 40 (fa 3), aI G (am 4) 40 (fa 4), aI G (am 5) 160 (fa 5), aI G (am 6) 160 (fa 6), aZ G (am 7) 64 (fa 7), aI G (am 8) 96 (fa 8), aI G (am 9) 98304 (fa 9), aI G (am 10) 8192 (fa 10), aI G (am 11) 8192 (fa 11), aI G (am 12) 8192 (fa 12), aI G (am 13) 8192 (fa 13), aI G (am 14) 8192 (fa 14), aI G (am 15) 8192 (fa 15), aI G (am 16) 12 (fa 16), aI G (am 17) 12 (fa 17), aI G (am 18) 12 (fa 18)]) (fun r u => r = stR ov1 ∧ MR E1 S u.1 ∧ (∀ i, i < 9 → u.1 i = fa i) ∧ (ov1 = 1 → u.2.1 = nI (E1.length - 1))) (fun u => [oM (am 0) [.int th, .int (nI n), .int (nI room), .int (nI Sx), .int (nI Kx), .int (nI rs.length), .ref (am 1), .ref (am 2), .ref (am 3), .ref (am 4), .ref (am 5), .ref (am 6), .ref (am 7), .ref (am 8), .int (nI pm.length), .int (nI E1.length), .int (nI S.length), .int (nI (md + 1)), .int (nI ag1), .int (nI (deadN S S.length)), .int (anF ov1), .int u.2.1, .ref (am 9), .ref (am 10), .ref (am 11), .ref (am 12), .ref (am 13), .ref (am 14), .ref (am 15), .ref (am 16), .ref (am 17), .ref (am 18), u.2.2 0, u.2.2 1], aI G (am 1) 40 (u.1 1), aI G (am 2) 40 (u.1 2), aI G (am 3) 40 (u.1 3), aI G (am 4) 40 (u.1 4), aI G (am 5) 160 (u.1 5), aI G (am 6) 160 (u.1 6), aZ G (am 7) 64 (u.1 7), aI G (am 8) 96 (u.1 8), aI G (am 9) 98304 (u.1 9), aI G (am 10) 8192 (u.1 10), aI G (am 11) 8192 (u.1 11), aI G (am 12) 8192 (u.1 12), aI G (am 13) 8192 (u.1 13), aI G (am 14) 8192 (u.1 14), aI G (am 15) 8192 (u.1 15), aI G (am 16) 12 (u.1 16), aI G (am 17) 12 (u.1 17), aI G (am 18) 12 (u.1 18)]) := by
  refine Ctr.start (by decide) (Nat.le_of_ble_eq_true rfl) ?_
  intro zp ze zs zm below meth zc A ls C0 hin hK hA hl hw
  obtain ⟨hx, hb, hr, hlk, hml, hown, hts⟩ := C0
  obtain ⟨R, hRR⟩ : ∃ R : Room, R = rmL 3 0 0 := ⟨_, rfl⟩
  have hRf : R.frames = 3 := by rw [hRR]
  have hRl : R.locals = 64 * 3 := by rw [hRR]
  have hRc : R.cells = 0 := by rw [hRR]
  have hRs : R.slots = 0 := by rw [hRR]
  rw [← hRR]; clear hRR
  generalize hQ : MQ below _ _ zs _ _ A = Q
  generalize hAr : List.toArray _ = args at hts hQ ⊢
  replace hl : lv_has ls 3 [(0, .ref (am 0)), (1, .int (nI wi)), (2, .int (nI ri))] := hl
  obtain ⟨H, eH⟩ : ∃ H : Heap, H = zs.heap := ⟨_, rfl⟩
  obtain ⟨locs, eL⟩ : ∃ l0 : List Loc, l0 = [] := ⟨_, rfl⟩
  rw [← eH, ← eL] at hw ⊢; clear eH eL
  obtain ⟨hn4, hs, hB, h00, hPm, h00m, h24, hPmm, hnum, hfe⟩ := hMC
  obtain ⟨hMRe, od, hod1, hod2, hod3⟩ := hMR
  have hE8 := hE.2.2
  have hVb := frm_ok h00 hPm hV hn4 (w := w)
  refine lv_aload_n hx hb d_M_step_0 rfl (lv_at hl 0 rfl) ?_
  refine lv_dup hx hb d_M_step_1 rfl ?_
  refine g_M_88 hx hb hts hown hK hw 0 rfl rfl d_M_step_2 ?_
  refine lv_iconst (v := nI 1) hx hb d_M_step_5 rfl ?_
  refine r_iaddN hx hb d_M_step_6 ?_
  refine p_M_88 hx hb hts hown hK hw 0 rfl (Nat.le_of_ble_eq_true rfl) d_M_step_7 (fun H locs hw1 => ?_)
  replace hw : WW G A zs ([oM (am 0) [.int th, .int (nI n), .int (nI room), .int (nI Sx), .int (nI Kx), .int (nI rs.length), .ref (am 1), .ref (am 2), .ref (am 3), .ref (am 4), .ref (am 5), .ref (am 6), .ref (am 7), .ref (am 8), .int (nI pm.length), .int (nI E.length), .int (nI S.length), .int (nI (md + 1)), .int (nI ag), .int (nI (deadN S S.length)), .int (nI 0), .int bw, .ref (am 9), .ref (am 10), .ref (am 11), .ref (am 12), .ref (am 13), .ref (am 14), .ref (am 15), .ref (am 16), .ref (am 17), .ref (am 18), zv 0, zv 1], aI G (am 1) 40 (fa 1), aI G (am 2) 40 (fa 2), aI G (am 3) 40 (fa 3), aI G (am 4) 40 (fa 4), aI G (am 5) 160 (fa 5), aI G (am 6) 160 (fa 6), aZ G (am 7) 64 (fa 7), aI G (am 8) 96 (fa 8), aI G (am 9) 98304 (fa 9), aI G (am 10) 8192 (fa 10), aI G (am 11) 8192 (fa 11), aI G (am 12) 8192 (fa 12), aI G (am 13) 8192 (fa 13), aI G (am 14) 8192 (fa 14), aI G (am 15) 8192 (fa 15), aI G (am 16) 12 (fa 16), aI G (am 17) 12 (fa 17), aI G (am 18) 12 (fa 18)]) H locs := hw1
  refine lv_aload_n hx hb d_M_step_10 rfl (lv_at hl 0 rfl) ?_
  refine xV_v (rest := []) (As := []) hx hb hml hown hts hK hA hw k_M_146 (c_M_form zl G (am 0) (am 8) (am 16) (am 17) (am 18) n (.int th) (.int (nI room)) (.int (nI Sx)) (.int (nI Kx)) (.int (nI rs.length)) (.ref (am 1)) (.ref (am 2)) (.ref (am 3)) (.ref (am 4)) (.ref (am 5)) (.ref (am 6)) (.ref (am 7)) (.int (nI E.length)) (.int (nI S.length)) (.int (nI (md + 1))) (.int (nI ag)) (.int (nI (deadN S S.length))) (.int (nI 0)) (.int bw) (.ref (am 9)) (.ref (am 10)) (.ref (am 11)) (.ref (am 12)) (.ref (am 13)) (.ref (am 14)) (.ref (am 15)) (zv 0) (zv 1) (fa 8) (fa 16) (fa 17) (fa 18) ps pm w hV hn4 h00m h24 hPmm hnum hx9 hfe) ([0, 8, 16, 17, 18]) rfl rfl (fun _ => Nat.le_of_ble_eq_true rfl) 0 rfl rfl rfl rfl hl.1 (Nat.le_of_ble_eq_true rfl) ⟨(by omega), (by omega)⟩ ⟨(by omega), (by omega)⟩ d_M_step_11 (fun _ u2 H locs hp hw1 => ?_)
  obtain ⟨sc, fo2, fl2⟩ := u2
  obtain ⟨rfl, hlr⟩ := hp
  refine W.cs (cells' := 0) (slots' := 0) rfl rfl ?_
  replace hw : WW G A zs ([oM (am 0) [.int th, .int (nI n), .int (nI room), .int (nI Sx), .int (nI Kx), .int (nI rs.length), .ref (am 1), .ref (am 2), .ref (am 3), .ref (am 4), .ref (am 5), .ref (am 6), .ref (am 7), .ref (am 8), .int (nI pm.length), .int (nI E.length), .int (nI S.length), .int (nI (md + 1)), .int (nI ag), .int (nI (deadN S S.length)), .int (nI 0), .int bw, .ref (am 9), .ref (am 10), .ref (am 11), .ref (am 12), .ref (am 13), .ref (am 14), .ref (am 15), .ref (am 16), .ref (am 17), .ref (am 18), .int (nI ((frm ps w).2)), zv 1], aI G (am 1) 40 (fa 1), aI G (am 2) 40 (fa 2), aI G (am 3) 40 (fa 3), aI G (am 4) 40 (fa 4), aI G (am 5) 160 (fa 5), aI G (am 6) 160 (fa 6), aZ G (am 7) 64 (fa 7), aI G (am 8) 96 (fa 8), aI G (am 9) 98304 (fa 9), aI G (am 10) 8192 (fa 10), aI G (am 11) 8192 (fa 11), aI G (am 12) 8192 (fa 12), aI G (am 13) 8192 (fa 13), aI G (am 14) 8192 (fa 14), aI G (am 15) 8192 (fa 15), aI G (am 16) 12 (fa 16), aI G (am 17) 12 fo2, aI G (am 18) 12 fl2]) H locs := hw1
  refine lv_aload_n hx hb d_M_step_14 rfl (lv_at hl 0 rfl) ?_
  refine xV_i (rest := []) (As := []) hx hb hml hown hts hK hA hw k_M_153 (c_M_isThere zl G (am 0) (am 9) (am 10) (am 18) n room (.int th) (.int (nI n)) (.int (nI room)) (.int (nI Sx)) (.int (nI Kx)) (.int (nI rs.length)) (.ref (am 1)) (.ref (am 2)) (.ref (am 3)) (.ref (am 4)) (.ref (am 5)) (.ref (am 6)) (.ref (am 7)) (.ref (am 8)) (.int (nI pm.length)) (.int (nI S.length)) (.int (nI (md + 1))) (.int (nI ag)) (.int (nI (deadN S S.length))) (.int (nI 0)) (.int bw) (.ref (am 11)) (.ref (am 12)) (.ref (am 13)) (.ref (am 14)) (.ref (am 15)) (.ref (am 16)) (.ref (am 17)) (.int (nI ((frm ps w).2))) (zv 1) (fa 9) (fa 10) fl2 E od (frm ps w).1 hVb hlr hE (fun k hk => (hMRe k hk).1) hod1 hod2 hod3) ([0, 9, 10, 18]) rfl rfl (fun _ => Nat.le_of_ble_eq_true rfl) 0 rfl rfl rfl rfl hl.1 (Nat.le_of_ble_eq_true rfl) ⟨(by omega), (by omega)⟩ ⟨(by omega), (by omega)⟩ d_M_step_15 (fun r lo H locs hp hw1 => ?_)
  obtain ⟨hr9, hod⟩ := hp
  refine W.cs (cells' := 0) (slots' := 0) rfl rfl ?_
  replace hw : WW G A zs ([oM (am 0) [.int th, .int (nI n), .int (nI room), .int (nI Sx), .int (nI Kx), .int (nI rs.length), .ref (am 1), .ref (am 2), .ref (am 3), .ref (am 4), .ref (am 5), .ref (am 6), .ref (am 7), .ref (am 8), .int (nI pm.length), .int (nI E.length), .int (nI S.length), .int (nI (md + 1)), .int (nI ag), .int (nI (deadN S S.length)), .int (nI 0), .int bw, .ref (am 9), .ref (am 10), .ref (am 11), .ref (am 12), .ref (am 13), .ref (am 14), .ref (am 15), .ref (am 16), .ref (am 17), .ref (am 18), .int (nI ((frm ps w).2)), .int (nI lo)], aI G (am 1) 40 (fa 1), aI G (am 2) 40 (fa 2), aI G (am 3) 40 (fa 3), aI G (am 4) 40 (fa 4), aI G (am 5) 160 (fa 5), aI G (am 6) 160 (fa 6), aZ G (am 7) 64 (fa 7), aI G (am 8) 96 (fa 8), aI G (am 9) 98304 (fa 9), aI G (am 10) 8192 (fa 10), aI G (am 11) 8192 (fa 11), aI G (am 12) 8192 (fa 12), aI G (am 13) 8192 (fa 13), aI G (am 14) 8192 (fa 14), aI G (am 15) 8192 (fa 15), aI G (am 16) 12 (fa 16), aI G (am 17) 12 fo2, aI G (am 18) 12 fl2]) H locs := hw1
  refine lv_if_eq (tgt := 33) hx hb d_M_step_18 (by decide) (fun c_18 => ?_) (fun c_18 => ?_)
  · skip
    have hnin := th_nin hr9 c_18
    refine lv_aload_n hx hb d_M_step_33 rfl (lv_at hl 0 rfl) ?_
    refine g_M_82 hx hb hts hown hK hw 0 rfl rfl d_M_step_34 ?_
    refine lv_aload_n hx hb d_M_step_37 rfl (lv_at hl 0 rfl) ?_
    refine g_M_73 hx hb hts hown hK hw 0 rfl rfl d_M_step_38 ?_
    refine r_icmp_ne (tgt := 51) hx hb (by omega) (by omega) d_M_step_41 (by decide) (fun c_41 => ?_) (fun c_41 => ?_)
    · skip
      obtain ⟨rfl, rfl, hov⟩ := tri_eq ((come_add hnin c_41).symm.trans hc)
      refine lv_aload_n hx hb d_M_step_51 rfl (lv_at hl 0 rfl) ?_
      refine lv_iload_n hx hb d_M_step_52 rfl (lv_at hl 1 rfl) ?_
      refine lv_iload_n hx hb d_M_step_53 rfl (lv_at hl 2 rfl) ?_
      refine xVA_v (rest := []) (As := [.int (nI wi), .int (nI ri)]) hx hb hml hown hts hK hA hw k_M_149 (c_M_come zl G am (va_up (va_up fa 17 (fo2)) 18 (fl2)) zv th bw n room Sx Kx ps pm B rs E S (md + 1) ag ov1 lo od w (nI wi) (nI ri) hn4 hV hs hB h00 hPm hE (by have := hE.2.2; omega) hSE hMRe hod1 hod2 hod3 hod hlr hnin (Or.inr ⟨wi, hwi, rfl⟩) hov) 0 rfl rfl rfl rfl hl.1 (Nat.le_of_ble_eq_true rfl) ⟨(by omega), (by omega)⟩ ⟨(by omega), (by omega)⟩ d_M_step_54 (fun _ u5 H locs hp hw1 => ?_)
      obtain ⟨fa5, bw5⟩ := u5
      obtain ⟨hm5, hb5, hk5⟩ := hp
      refine W.cs (cells' := 0) (slots' := 0) rfl rfl ?_
      replace hw : WW G A zs ([oM (am 0) [.int th, .int (nI n), .int (nI room), .int (nI Sx), .int (nI Kx), .int (nI rs.length), .ref (am 1), .ref (am 2), .ref (am 3), .ref (am 4), .ref (am 5), .ref (am 6), .ref (am 7), .ref (am 8), .int (nI pm.length), .int (nI ((E ++ [((frm ps w).1, nI wi, nI ri, lvA E (nI wi), (frm ps w).2)]).length)), .int (nI S.length), .int (nI (md + 1)), .int (nI ag), .int (nI (deadN S S.length)), .int (anF ov1), .int bw5, .ref (am 9), .ref (am 10), .ref (am 11), .ref (am 12), .ref (am 13), .ref (am 14), .ref (am 15), .ref (am 16), .ref (am 17), .ref (am 18), .int (nI ((frm ps w).2)), .int (nI lo)], aI G (am 1) 40 (fa5 1), aI G (am 2) 40 (fa5 2), aI G (am 3) 40 (fa5 3), aI G (am 4) 40 (fa5 4), aI G (am 5) 160 (fa5 5), aI G (am 6) 160 (fa5 6), aZ G (am 7) 64 (fa5 7), aI G (am 8) 96 (fa5 8), aI G (am 9) 98304 (fa5 9), aI G (am 10) 8192 (fa5 10), aI G (am 11) 8192 (fa5 11), aI G (am 12) 8192 (fa5 12), aI G (am 13) 8192 (fa5 13), aI G (am 14) 8192 (fa5 14), aI G (am 15) 8192 (fa5 15), aI G (am 16) 12 (fa5 16), aI G (am 17) 12 (fa5 17), aI G (am 18) 12 (fa5 18)]) H locs := hw1
      have hov2 : ov1 ≤ 2 := by rw [← hov]; split <;> omega
      refine lv_aload_n hx hb d_M_step_57 rfl (lv_at hl 0 rfl) ?_
      refine g_M_97 hx hb hts hown hK hw 0 rfl rfl d_M_step_58 ?_
      refine lv_if_ne (tgt := 68) hx hb d_M_step_61 (by decide) (fun c_61 => ?_) (fun c_61 => ?_)
      · skip
        refine lv_iconst (v := nI 0) hx hb d_M_step_68 rfl ?_
        exact r_ret hQ (r_zret (fa5, bw5, (fun i => if i = 0 then .int (nI (frm ps w).2) else .int (nI lo))) hx hb hr hlk hw (⟨by unfold stR; rw [if_neg (fun z => c_61 ((anF_0 hov2).mpr z))], hm5, kpt kp3 hk5, hb5⟩) (by decide) (by omega) (by omega) d_M_step_69)
      · skip
        refine lv_iconst (v := nI 1) hx hb d_M_step_64 rfl ?_
        refine lv_goto (tgt := 69) hx hb d_M_step_65 (by decide) ?_
        exact r_ret hQ (r_zret (fa5, bw5, (fun i => if i = 0 then .int (nI (frm ps w).2) else .int (nI lo))) hx hb hr hlk hw (⟨by unfold stR; rw [if_pos ((anF_0 hov2).mp c_61)], hm5, kpt kp3 hk5, hb5⟩) (by decide) (by omega) (by omega) d_M_step_69)
    · skip
      obtain ⟨rfl, rfl, rfl⟩ := tri_eq ((come_full hnin c_41).symm.trans hc)
      refine lv_aload_n hx hb d_M_step_44 rfl (lv_at hl 0 rfl) ?_
      refine lv_iconst (v := -1) hx hb d_M_step_45 (by decide) ?_
      refine p_M_97 hx hb hts hown hK hw 0 rfl (Nat.le_of_ble_eq_true rfl) d_M_step_46 (fun H locs hw1 => ?_)
      replace hw : WW G A zs ([oM (am 0) [.int th, .int (nI n), .int (nI room), .int (nI Sx), .int (nI Kx), .int (nI rs.length), .ref (am 1), .ref (am 2), .ref (am 3), .ref (am 4), .ref (am 5), .ref (am 6), .ref (am 7), .ref (am 8), .int (nI pm.length), .int (nI E.length), .int (nI S.length), .int (nI (md + 1)), .int (nI ag), .int (nI (deadN S S.length)), .int (-1), .int bw, .ref (am 9), .ref (am 10), .ref (am 11), .ref (am 12), .ref (am 13), .ref (am 14), .ref (am 15), .ref (am 16), .ref (am 17), .ref (am 18), .int (nI ((frm ps w).2)), .int (nI lo)], aI G (am 1) 40 (fa 1), aI G (am 2) 40 (fa 2), aI G (am 3) 40 (fa 3), aI G (am 4) 40 (fa 4), aI G (am 5) 160 (fa 5), aI G (am 6) 160 (fa 6), aZ G (am 7) 64 (fa 7), aI G (am 8) 96 (fa 8), aI G (am 9) 98304 (fa 9), aI G (am 10) 8192 (fa 10), aI G (am 11) 8192 (fa 11), aI G (am 12) 8192 (fa 12), aI G (am 13) 8192 (fa 13), aI G (am 14) 8192 (fa 14), aI G (am 15) 8192 (fa 15), aI G (am 16) 12 (fa 16), aI G (am 17) 12 fo2, aI G (am 18) 12 fl2]) H locs := hw1
      refine lv_iconst (v := nI 0) hx hb d_M_step_49 rfl ?_
      exact r_ret hQ (r_zret (va_up (va_up fa 17 (fo2)) 18 (fl2), bw, (fun i => if i = 0 then .int (nI (frm ps w).2) else .int (nI lo))) hx hb hr hlk hw (⟨rfl, ⟨hMRe, od, hod1, hod2, hod3⟩, kp3, fun z => absurd z (by decide)⟩) (by decide) (by omega) (by omega) d_M_step_50)
  · skip
    have hin2 := th_in hr9 c_18
    obtain ⟨rfl, rfl, rfl⟩ := tri_eq ((come_again hin2).symm.trans hc)
    refine lv_aload_n hx hb d_M_step_21 rfl (lv_at hl 0 rfl) ?_
    refine lv_dup hx hb d_M_step_22 rfl ?_
    refine g_M_91 hx hb hts hown hK hw 0 rfl rfl d_M_step_23 ?_
    refine lv_iconst (v := nI 1) hx hb d_M_step_26 rfl ?_
    refine r_iaddN hx hb d_M_step_27 ?_
    refine p_M_91 hx hb hts hown hK hw 0 rfl (Nat.le_of_ble_eq_true rfl) d_M_step_28 (fun H locs hw1 => ?_)
    replace hw : WW G A zs ([oM (am 0) [.int th, .int (nI n), .int (nI room), .int (nI Sx), .int (nI Kx), .int (nI rs.length), .ref (am 1), .ref (am 2), .ref (am 3), .ref (am 4), .ref (am 5), .ref (am 6), .ref (am 7), .ref (am 8), .int (nI pm.length), .int (nI E.length), .int (nI S.length), .int (nI (md + 1)), .int (nI (ag + 1)), .int (nI (deadN S S.length)), .int (nI 0), .int bw, .ref (am 9), .ref (am 10), .ref (am 11), .ref (am 12), .ref (am 13), .ref (am 14), .ref (am 15), .ref (am 16), .ref (am 17), .ref (am 18), .int (nI ((frm ps w).2)), .int (nI lo)], aI G (am 1) 40 (fa 1), aI G (am 2) 40 (fa 2), aI G (am 3) 40 (fa 3), aI G (am 4) 40 (fa 4), aI G (am 5) 160 (fa 5), aI G (am 6) 160 (fa 6), aZ G (am 7) 64 (fa 7), aI G (am 8) 96 (fa 8), aI G (am 9) 98304 (fa 9), aI G (am 10) 8192 (fa 10), aI G (am 11) 8192 (fa 11), aI G (am 12) 8192 (fa 12), aI G (am 13) 8192 (fa 13), aI G (am 14) 8192 (fa 14), aI G (am 15) 8192 (fa 15), aI G (am 16) 12 (fa 16), aI G (am 17) 12 fo2, aI G (am 18) 12 fl2]) H locs := hw1
    refine lv_iconst (v := nI 1) hx hb d_M_step_31 rfl ?_
    exact r_ret hQ (r_zret (va_up (va_up fa 17 (fo2)) 18 (fl2), bw, (fun i => if i = 0 then .int (nI (frm ps w).2) else .int (nI lo))) hx hb hr hlk hw (⟨rfl, ⟨hMRe, od, hod1, hod2, hod3⟩, kp3, fun z => absurd z (by decide)⟩) (by decide) (by omega) (by omega) d_M_step_32)
set_option maxHeartbeats 4000000 in
set_option maxRecDepth 100000 in
theorem c_M_begin (zl : Launch) (G : GG) (am : Nat → Nat) (fa : Nat → Nat → Int32) (zv : Nat → Value) (th bw : Int32) (n room Sx Kx : Nat) (ps pm : List (List Nat)) (B : Nat → Bool) (rs : List Rl) (E E1 : List Ent) (S : List Nat) (md ag ag1 ov ov1 : Nat) (hMC : MC n ps pm B fa) (hE : EOK n room E) (hSE : S.length ≤ E.length) (hMR : MR E S fa) (hroom : 0 < room) (hz : E.length = 0 → md = 0 ∧ ag = 0) (hbw : ov = 1 → bw = nI (E.length - 1)) (hc : bgA ps B n room E ag ov = (E1, ag1, ov1)) : Ctr (S := (Nat → Nat → Int32) × Int32 × (Nat → Value)) vV zl y_M_begin b_M_begin 2 (Option.none : Option Jvm.ClassFile.FieldType) 3 0 0 G [.ref (am 0)] ([oM (am 0) [.int th, .int (nI n), .int (nI room), .int (nI Sx), .int (nI Kx), .int (nI rs.length), .ref (am 1), .ref (am 2), .ref (am 3), .ref (am 4), .ref (am 5), .ref (am 6), .ref (am 7), .ref (am 8), .int (nI pm.length), .int (nI E.length), .int (nI S.length), .int (nI md), .int (nI ag), .int (nI (deadN S S.length)), .int (anF ov), .int bw, .ref (am 9), .ref (am 10), .ref (am 11), .ref (am 12), .ref (am 13), .ref (am 14), .ref (am 15), .ref (am 16), .ref (am 17), .ref (am 18), zv 0, zv 1], aI G (am 1) 40 (fa 1), aI G (am 2) 40 (fa 2), aI G (am 3) 40 (fa 3), aI G (am 4) 40 (fa 4), aI G (am 5) 160 (fa 5), aI G (am 6) 160 (fa 6), aZ G (am 7) 64 (fa 7), aI G (am 8) 96 (fa 8), aI G (am 9) 98304 (fa 9), aI G (am 10) 8192 (fa 10), aI G (am 11) 8192 (fa 11), aI G (am 12) 8192 (fa 12), aI G (am 13) 8192 (fa 13), aI G (am 14) 8192 (fa 14), aI G (am 15) 8192 (fa 15), aI G (am 16) 12 (fa 16), aI G (am 17) 12 (fa 17), aI G (am 18) 12 (fa 18)]) (fun _ u => MR E1 S u.1 ∧ (∀ i, i < 9 → u.1 i = fa i) ∧ (ov1 = 1 → u.2.1 = nI (E1.length - 1))) (fun u => [oM (am 0) [.int th, .int (nI n), .int (nI room), .int (nI Sx), .int (nI Kx), .int (nI rs.length), .ref (am 1), .ref (am 2), .ref (am 3), .ref (am 4), .ref (am 5), .ref (am 6), .ref (am 7), .ref (am 8), .int (nI pm.length), .int (nI E1.length), .int (nI S.length), .int (nI md), .int (nI ag1), .int (nI (deadN S S.length)), .int (anF ov1), .int u.2.1, .ref (am 9), .ref (am 10), .ref (am 11), .ref (am 12), .ref (am 13), .ref (am 14), .ref (am 15), .ref (am 16), .ref (am 17), .ref (am 18), u.2.2 0, u.2.2 1], aI G (am 1) 40 (u.1 1), aI G (am 2) 40 (u.1 2), aI G (am 3) 40 (u.1 3), aI G (am 4) 40 (u.1 4), aI G (am 5) 160 (u.1 5), aI G (am 6) 160 (u.1 6), aZ G (am 7) 64 (u.1 7), aI G (am 8) 96 (u.1 8), aI G (am 9) 98304 (u.1 9), aI G (am 10) 8192 (u.1 10), aI G (am 11) 8192 (u.1 11), aI G (am 12) 8192 (u.1 12), aI G (am 13) 8192 (u.1 13), aI G (am 14) 8192 (u.1 14), aI G (am 15) 8192 (u.1 15), aI G (am 16) 12 (u.1 16), aI G (am 17) 12 (u.1 17), aI G (am 18) 12 (u.1 18)]) := by
  refine Ctr.start (by decide) (Nat.le_of_ble_eq_true rfl) ?_
  intro zp ze zs zm below meth zc A ls C0 hin hK hA hl hw
  obtain ⟨hx, hb, hr, hlk, hml, hown, hts⟩ := C0
  obtain ⟨R, hRR⟩ : ∃ R : Room, R = rmL 3 0 0 := ⟨_, rfl⟩
  have hRf : R.frames = 3 := by rw [hRR]
  have hRl : R.locals = 64 * 3 := by rw [hRR]
  have hRc : R.cells = 0 := by rw [hRR]
  have hRs : R.slots = 0 := by rw [hRR]
  rw [← hRR]; clear hRR
  generalize hQ : MQ below _ _ zs _ _ A = Q
  generalize hAr : List.toArray _ = args at hts hQ ⊢
  replace hl : lv_has ls 2 [(0, .ref (am 0))] := hl
  obtain ⟨H, eH⟩ : ∃ H : Heap, H = zs.heap := ⟨_, rfl⟩
  obtain ⟨locs, eL⟩ : ∃ l0 : List Loc, l0 = [] := ⟨_, rfl⟩
  rw [← eH, ← eL] at hw ⊢; clear eH eL
  have hE8 := hE.2.2
  refine lv_aload_n hx hb d_M_begin_0 rfl (lv_at hl 0 rfl) ?_
  refine g_M_82 hx hb hts hown hK hw 0 rfl rfl d_M_begin_1 ?_
  refine r_if_le (tgt := 8) hx hb (by omega) d_M_begin_4 (by decide) (fun c_4 => ?_) (fun c_4 => ?_)
  · skip
    obtain rfl : E = [] := List.length_eq_zero_iff.mp (by omega)
    obtain rfl : S = [] := List.length_eq_zero_iff.mp (Nat.le_zero.mp hSE)
    obtain ⟨rfl, rfl⟩ := hz rfl
    have hn4 := hMC.1
    have hrm := hroom
    obtain ⟨rfl, rfl, hov⟩ := tri_eq ((bg_nil hroom).symm.trans hc)
    obtain ⟨hn4, hs, hB, h00, hPm, h00m, h24, hPmm, hnum, hfe⟩ := hMC
    have hx9 := w0_ok n
    refine lv_aload_n hx hb d_M_begin_8 rfl (lv_at hl 0 rfl) ?_
    refine xV_v (rest := []) (As := []) hx hb hml hown hts hK hA hw k_M_107 (c_M_forget zl G (am 0) _ _ _ _ _ _ _ _ _ _ _ _ _ _ _ _ _ _ _ _ _ _ _ _ _ _ _ _ _ _ _ _ _ _) ([0]) rfl rfl (fun _ => Nat.le_of_ble_eq_true rfl) 0 rfl rfl rfl rfl hl.1 (Nat.le_of_ble_eq_true rfl) ⟨(by omega), (by omega)⟩ ⟨(by omega), (by omega)⟩ d_M_begin_9 (fun _ u H locs hp hw1 => ?_)
    refine W.cs (cells' := 0) (slots' := 0) rfl rfl ?_
    replace hw : WW G A zs ([oM (am 0) [.int th, .int (nI n), .int (nI room), .int (nI Sx), .int (nI Kx), .int (nI rs.length), .ref (am 1), .ref (am 2), .ref (am 3), .ref (am 4), .ref (am 5), .ref (am 6), .ref (am 7), .ref (am 8), .int (nI pm.length), .int (nI 0), .int (nI 0), .int (nI 0), .int (nI 0), .int (nI 0), .int (nI 0), .int (-1), .ref (am 9), .ref (am 10), .ref (am 11), .ref (am 12), .ref (am 13), .ref (am 14), .ref (am 15), .ref (am 16), .ref (am 17), .ref (am 18), zv 0, zv 1], aI G (am 1) 40 (fa 1), aI G (am 2) 40 (fa 2), aI G (am 3) 40 (fa 3), aI G (am 4) 40 (fa 4), aI G (am 5) 160 (fa 5), aI G (am 6) 160 (fa 6), aZ G (am 7) 64 (fa 7), aI G (am 8) 96 (fa 8), aI G (am 9) 98304 (fa 9), aI G (am 10) 8192 (fa 10), aI G (am 11) 8192 (fa 11), aI G (am 12) 8192 (fa 12), aI G (am 13) 8192 (fa 13), aI G (am 14) 8192 (fa 14), aI G (am 15) 8192 (fa 15), aI G (am 16) 12 (fa 16), aI G (am 17) 12 (fa 17), aI G (am 18) 12 (fa 18)]) H locs := hw1
    refine lv_iconst (v := nI 0) hx hb d_M_begin_12 rfl ?_
    refine lv_istore_n (lv' := [(1, .int (nI 0)), (0, .ref (am 0))]) hx hb d_M_begin_13 rfl hl (by decide) rfl (fun ls hl => ?_)
    have Lp14 : ∀ N_14 : Nat, ∀ (k : Nat) (fx : Nat → Int32), (k ≤ 12) → (∀ i, i < k → fx i = nI 0) → 12 - k < N_14 → ∀ (H : Heap) (locs : List Loc) (ls : Array Slot), lv_has ls 2 [(0, .ref (am 0)), (1, .int (nI k))] → WW G A zs ([oM (am 0) [.int th, .int (nI n), .int (nI room), .int (nI Sx), .int (nI Kx), .int (nI rs.length), .ref (am 1), .ref (am 2), .ref (am 3), .ref (am 4), .ref (am 5), .ref (am 6), .ref (am 7), .ref (am 8), .int (nI pm.length), .int (nI 0), .int (nI 0), .int (nI 0), .int (nI 0), .int (nI 0), .int (nI 0), .int (-1), .ref (am 9), .ref (am 10), .ref (am 11), .ref (am 12), .ref (am 13), .ref (am 14), .ref (am 15), .ref (am 16), .ref (am 17), .ref (am 18), zv 0, zv 1], aI G (am 1) 40 (fa 1), aI G (am 2) 40 (fa 2), aI G (am 3) 40 (fa 3), aI G (am 4) 40 (fa 4), aI G (am 5) 160 (fa 5), aI G (am 6) 160 (fa 6), aZ G (am 7) 64 (fa 7), aI G (am 8) 96 (fa 8), aI G (am 9) 98304 (fa 9), aI G (am 10) 8192 (fa 10), aI G (am 11) 8192 (fa 11), aI G (am 12) 8192 (fa 12), aI G (am 13) 8192 (fa 13), aI G (am 14) 8192 (fa 14), aI G (am 15) 8192 (fa 15), aI G (am 16) 12 fx, aI G (am 17) 12 (fa 17), aI G (am 18) 12 (fa 18)]) H locs → W zp zl ze R zs zm args below meth zc H locs 0 0 Q (F0 zm 14 ls []) := by
      intro N_14
      induction N_14 with
      | zero => intros; omega
      | succ N_14 ih_14 =>
        intro k fx hk hfx hN_14 H locs ls hl hw
        refine lv_iload_n hx hb d_M_begin_14 rfl (lv_at hl 1 rfl) ?_
        refine lv_bipush (v := nI 12) hx hb d_M_begin_15 (by decide) ?_
        refine r_icmp_ge (tgt := 33) hx hb (by omega) (by omega) d_M_begin_17 (by decide) (fun c_17 => ?_) (fun c_17 => ?_)
        · skip
          have hrow := w0_row (f := fx) (fun i hi => hfx i (by omega))
          have hVb := frm_ok h00 hPm hx9 hn4 (w := w0A)
          refine lv_aload_n hx hb d_M_begin_33 rfl (lv_at hl 0 rfl) ?_
          refine xV_v (rest := []) (As := []) hx hb hml hown hts hK hA hw k_M_146 (c_M_form zl G (am 0) (am 8) (am 16) (am 17) (am 18) n (.int th) (.int (nI room)) (.int (nI Sx)) (.int (nI Kx)) (.int (nI rs.length)) (.ref (am 1)) (.ref (am 2)) (.ref (am 3)) (.ref (am 4)) (.ref (am 5)) (.ref (am 6)) (.ref (am 7)) (.int (nI 0)) (.int (nI 0)) (.int (nI 0)) (.int (nI 0)) (.int (nI 0)) (.int (nI 0)) (.int (-1)) (.ref (am 9)) (.ref (am 10)) (.ref (am 11)) (.ref (am 12)) (.ref (am 13)) (.ref (am 14)) (.ref (am 15)) (zv 0) (zv 1) (fa 8) fx (fa 17) (fa 18) ps pm w0A hx9 hn4 h00m h24 hPmm hnum hrow hfe) ([0, 8, 16, 17, 18]) rfl rfl (fun _ => Nat.le_of_ble_eq_true rfl) 0 rfl rfl rfl rfl hl.1 (Nat.le_of_ble_eq_true rfl) ⟨(by omega), (by omega)⟩ ⟨(by omega), (by omega)⟩ d_M_begin_34 (fun _ u2 H locs hp hw1 => ?_)
          obtain ⟨sc, fo2, fl2⟩ := u2
          obtain ⟨rfl, hlr⟩ := hp
          refine W.cs (cells' := 0) (slots' := 0) rfl rfl ?_
          replace hw : WW G A zs ([oM (am 0) [.int th, .int (nI n), .int (nI room), .int (nI Sx), .int (nI Kx), .int (nI rs.length), .ref (am 1), .ref (am 2), .ref (am 3), .ref (am 4), .ref (am 5), .ref (am 6), .ref (am 7), .ref (am 8), .int (nI pm.length), .int (nI 0), .int (nI 0), .int (nI 0), .int (nI 0), .int (nI 0), .int (nI 0), .int (-1), .ref (am 9), .ref (am 10), .ref (am 11), .ref (am 12), .ref (am 13), .ref (am 14), .ref (am 15), .ref (am 16), .ref (am 17), .ref (am 18), .int (nI ((frm ps w0A).2)), zv 1], aI G (am 1) 40 (fa 1), aI G (am 2) 40 (fa 2), aI G (am 3) 40 (fa 3), aI G (am 4) 40 (fa 4), aI G (am 5) 160 (fa 5), aI G (am 6) 160 (fa 6), aZ G (am 7) 64 (fa 7), aI G (am 8) 96 (fa 8), aI G (am 9) 98304 (fa 9), aI G (am 10) 8192 (fa 10), aI G (am 11) 8192 (fa 11), aI G (am 12) 8192 (fa 12), aI G (am 13) 8192 (fa 13), aI G (am 14) 8192 (fa 14), aI G (am 15) 8192 (fa 15), aI G (am 16) 12 fx, aI G (am 17) 12 fo2, aI G (am 18) 12 fl2]) H locs := hw1
          refine lv_aload_n hx hb d_M_begin_37 rfl (lv_at hl 0 rfl) ?_
          refine lv_iconst (v := nI 0) hx hb d_M_begin_38 rfl ?_
          refine p_M_139 hx hb hts hown hK hw 0 rfl (Nat.le_of_ble_eq_true rfl) d_M_begin_39 (fun H locs hw1 => ?_)
          replace hw : WW G A zs ([oM (am 0) [.int th, .int (nI n), .int (nI room), .int (nI Sx), .int (nI Kx), .int (nI rs.length), .ref (am 1), .ref (am 2), .ref (am 3), .ref (am 4), .ref (am 5), .ref (am 6), .ref (am 7), .ref (am 8), .int (nI pm.length), .int (nI 0), .int (nI 0), .int (nI 0), .int (nI 0), .int (nI 0), .int (nI 0), .int (-1), .ref (am 9), .ref (am 10), .ref (am 11), .ref (am 12), .ref (am 13), .ref (am 14), .ref (am 15), .ref (am 16), .ref (am 17), .ref (am 18), .int (nI ((frm ps w0A).2)), .int (nI 0)], aI G (am 1) 40 (fa 1), aI G (am 2) 40 (fa 2), aI G (am 3) 40 (fa 3), aI G (am 4) 40 (fa 4), aI G (am 5) 160 (fa 5), aI G (am 6) 160 (fa 6), aZ G (am 7) 64 (fa 7), aI G (am 8) 96 (fa 8), aI G (am 9) 98304 (fa 9), aI G (am 10) 8192 (fa 10), aI G (am 11) 8192 (fa 11), aI G (am 12) 8192 (fa 12), aI G (am 13) 8192 (fa 13), aI G (am 14) 8192 (fa 14), aI G (am 15) 8192 (fa 15), aI G (am 16) 12 fx, aI G (am 17) 12 fo2, aI G (am 18) 12 fl2]) H locs := hw1
          refine lv_aload_n hx hb d_M_begin_42 rfl (lv_at hl 0 rfl) ?_
          refine lv_iconst (v := -1) hx hb d_M_begin_43 (by decide) ?_
          refine lv_iconst (v := -1) hx hb d_M_begin_44 (by decide) ?_
          refine xVA_v (rest := []) (As := [.int (-1), .int (-1)]) hx hb hml hown hts hK hA hw k_M_149 (c_M_come zl G am (va_up (va_up (va_up fa 16 (fx)) 17 (fo2)) 18 (fl2)) zv th (-1) n room Sx Kx ps pm B rs [] [] 0 0 ov1 0 (fun _ => 0) w0A (-1) (-1) hn4 hx9 hs hB h00 hPm hE hroom (Nat.le_refl _) (fun k hk => absurd hk (Nat.not_lt_zero _)) (fun k hk => absurd hk (Nat.not_lt_zero _)) (fun k k1 _ hk => absurd hk (Nat.not_lt_zero _)) (fun k hk => absurd hk (Nat.not_lt_zero _)) ⟨Nat.le_refl _, fun k hk => absurd hk (Nat.not_lt_zero _), fun k _ hk => absurd hk (Nat.not_lt_zero _)⟩ hlr (by simp) (Or.inl rfl) hov) 0 rfl rfl rfl rfl hl.1 (Nat.le_of_ble_eq_true rfl) ⟨(by omega), (by omega)⟩ ⟨(by omega), (by omega)⟩ d_M_begin_45 (fun _ u5 H locs hp hw1 => ?_)
          obtain ⟨fa5, bw5⟩ := u5
          obtain ⟨hm5, hb5, hk5⟩ := hp
          refine W.cs (cells' := 0) (slots' := 0) rfl rfl ?_
          replace hw : WW G A zs ([oM (am 0) [.int th, .int (nI n), .int (nI room), .int (nI Sx), .int (nI Kx), .int (nI rs.length), .ref (am 1), .ref (am 2), .ref (am 3), .ref (am 4), .ref (am 5), .ref (am 6), .ref (am 7), .ref (am 8), .int (nI pm.length), .int (nI ([((frm ps w0A).1, -1, -1, 0, (frm ps w0A).2)].length)), .int (nI (([] : List Nat).length)), .int (nI 0), .int (nI 0), .int (nI (deadN ([] : List Nat) ([] : List Nat).length)), .int (anF ov1), .int bw5, .ref (am 9), .ref (am 10), .ref (am 11), .ref (am 12), .ref (am 13), .ref (am 14), .ref (am 15), .ref (am 16), .ref (am 17), .ref (am 18), .int (nI ((frm ps w0A).2)), .int (nI 0)], aI G (am 1) 40 (fa5 1), aI G (am 2) 40 (fa5 2), aI G (am 3) 40 (fa5 3), aI G (am 4) 40 (fa5 4), aI G (am 5) 160 (fa5 5), aI G (am 6) 160 (fa5 6), aZ G (am 7) 64 (fa5 7), aI G (am 8) 96 (fa5 8), aI G (am 9) 98304 (fa5 9), aI G (am 10) 8192 (fa5 10), aI G (am 11) 8192 (fa5 11), aI G (am 12) 8192 (fa5 12), aI G (am 13) 8192 (fa5 13), aI G (am 14) 8192 (fa5 14), aI G (am 15) 8192 (fa5 15), aI G (am 16) 12 (fa5 16), aI G (am 17) 12 (fa5 17), aI G (am 18) 12 (fa5 18)]) H locs := hw1
          exact r_ret hQ (r_vret (fa5, bw5, (fun i => if i = 0 then .int (nI (frm ps w0A).2) else .int (nI 0))) hx hb hr hlk hw (⟨hm5, kpt kp4 hk5, hb5⟩) (by omega) (by omega) d_M_begin_48)
        · skip
          refine lv_aload_n hx hb d_M_begin_20 rfl (lv_at hl 0 rfl) ?_
          refine g_M_61 hx hb hts hown hK hw 0 rfl rfl d_M_begin_21 ?_
          refine lv_iload_n hx hb d_M_begin_24 rfl (lv_at hl 1 rfl) ?_
          refine lv_iconst (v := nI 0) hx hb d_M_begin_25 rfl ?_
          refine r_iast hx hb hK hw 16 rfl (by omega) (by omega) d_M_begin_26 (fun H locs hw1 => ?_)
          replace hw : WW G A zs ([oM (am 0) [.int th, .int (nI n), .int (nI room), .int (nI Sx), .int (nI Kx), .int (nI rs.length), .ref (am 1), .ref (am 2), .ref (am 3), .ref (am 4), .ref (am 5), .ref (am 6), .ref (am 7), .ref (am 8), .int (nI pm.length), .int (nI 0), .int (nI 0), .int (nI 0), .int (nI 0), .int (nI 0), .int (nI 0), .int (-1), .ref (am 9), .ref (am 10), .ref (am 11), .ref (am 12), .ref (am 13), .ref (am 14), .ref (am 15), .ref (am 16), .ref (am 17), .ref (am 18), zv 0, zv 1], aI G (am 1) 40 (fa 1), aI G (am 2) 40 (fa 2), aI G (am 3) 40 (fa 3), aI G (am 4) 40 (fa 4), aI G (am 5) 160 (fa 5), aI G (am 6) 160 (fa 6), aZ G (am 7) 64 (fa 7), aI G (am 8) 96 (fa 8), aI G (am 9) 98304 (fa 9), aI G (am 10) 8192 (fa 10), aI G (am 11) 8192 (fa 11), aI G (am 12) 8192 (fa 12), aI G (am 13) 8192 (fa 13), aI G (am 14) 8192 (fa 14), aI G (am 15) 8192 (fa 15), aI G (am 16) 12 (upd fx k (nI 0)), aI G (am 17) 12 (fa 17), aI G (am 18) 12 (fa 18)]) H locs := hw1
          refine r_iincN (n := 1) (lv' := [(1, .int (nI (k + 1))), (0, .ref (am 0))]) hx hb d_M_begin_27 hl (k := 1) rfl (by decide) rfl (fun ls hl => ?_)
          refine lv_goto (tgt := 14) hx hb d_M_begin_30 (by decide) ?_
          exact ih_14 (k + 1) (upd fx k (nI 0)) (by omega) (upd_lt (g := fun _ => nI 0) hfx rfl) (by omega) _ _ _ (lv_sub hl [1, 0] rfl) hw
    exact Lp14 _ 0 (fa 16) (by omega) (fun i hi => absurd hi (Nat.not_lt_zero _)) (Nat.lt_succ_self _) _ _ _ (lv_sub hl [1, 0] rfl) hw
  · skip
    obtain ⟨rfl, rfl, rfl⟩ := tri_eq ((bg_some (show E.length ≠ 0 by omega)).symm.trans hc)
    exact r_ret hQ (r_vret (fa, bw, zv) hx hb hr hlk hw (⟨hMR, fun _ _ => rfl, hbw⟩) (by omega) (by omega) d_M_begin_7)
