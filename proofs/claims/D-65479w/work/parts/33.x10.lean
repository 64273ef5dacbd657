def resR (ov m : Nat) : Int32 := if ov = 1 then -2 else if ov = 2 then -1 else nI m
theorem run_1 {ov m : Nat} (h : ¬ boF ov m = -1) : -2 = resR ov m := by
  unfold boF at h; unfold resR
  split at h
  · rename_i h1; rw [if_pos h1]
  · exact absurd rfl h
theorem run_2 {ov m : Nat} (h : boF ov m = -1) (h2 : ¬ fuF ov = 0) (ho : ov ≤ 2) : -1 = resR ov m := by
  unfold fuF at h2; unfold resR
  split at h2
  · rename_i h1; rw [if_neg (by omega), if_pos h1]
  · exact absurd rfl h2
theorem run_0 {ov m : Nat} (h : boF ov m = -1) (h2 : fuF ov = 0) (hm : m < 100000) (ho : ov ≤ 2) : nI m = resR ov m := by
  have := (over_iff ho hm).mp ⟨h, h2⟩
  unfold resR
  rw [if_neg (by omega), if_neg (by omega)]
set_option maxHeartbeats 4000000 in
set_option maxRecDepth 100000 in
theorem c_X_run (zl : Launch) (G : GG) (ad qa : Nat → Nat) (fm : Nat → Int64) (fs js : Nat → Nat → Int32) (zv : Nat → Value) (fb fn : Nat → Int32) (rr : Nat → Option Nat) (rp : va_W) (n room Sx Kx j : Nat) (ps : List (List Nat)) (B : Nat → Bool) (rs : List Rl) (E Ef : List Ent) (S Sf : List Nat) (md ag ov mdf agf ovf : Nat) (hcf : CF n ps B fb fn) (hX : XR E j fm fs) (hSI : SI n room (E, S, md, ag, ov)) (hXS : XS S (fs 5)) (hrp : RP G rr rs rp) (hroom : 0 < room) (hst : rnA ps B n room rs 8193 (bgS ps B n room (E, S, md, ag, ov)) = (Ef, Sf, mdf, agf, ovf)) : Ctr (S := (Nat → Nat) × (Nat → Int64) × (Nat → Nat → Int32) × (Nat → Nat → Int32) × (Nat → Value)) vI zl y_X_run b_X_run 1 (Option.some Jvm.ClassFile.FieldType.int) 7 (7 * (jx j Ef.length - j)) (1280 * 2 ^ jx j Ef.length - 1280 * 2 ^ j) G [.ref (ad 0)] ([oX (ad 0) [.int (nI n), .int (nI room), .int (nI Sx), .int (nI Kx), .ref (ad 17), .int (nI rs.length), .ref (ad 1), .ref (ad 2), .int (nI ps.length), .ref (qa 1), .ref (qa 2), .ref (qa 3), .ref (qa 4), .ref (qa 5), .ref (qa 6), .int (nI E.length), .int (nI S.length), .ref (qa 7), .int (boF ov E.length), .int (fuF ov), .int (nI md), .int (nI ag), .ref (ad 18), .ref (ad 10), .ref (ad 13), .ref (ad 16), zv 2], aZ G (ad 1) 64 fb, aI G (ad 2) 96 fn, aJ G (qa 1) (64 * 2 ^ j) fm, aI G (qa 2) (64 * 2 ^ j) (fs 2), aI G (qa 3) (64 * 2 ^ j) (fs 3), aI G (qa 4) (64 * 2 ^ j) (fs 4), aI G (qa 5) (64 * 2 ^ j) (fs 5), aI G (qa 6) (64 * 2 ^ j) (fs 6), aI G (qa 7) (2 ^ (8 + j)) (fs 7), oW (ad 10) [.ref (ad 11), .ref (ad 12), zv 0], aI G (ad 11) 4 (js 1), aI G (ad 12) 8 (js 2), oW (ad 13) [.ref (ad 14), .ref (ad 15), zv 1], aI G (ad 14) 4 (js 3), aI G (ad 15) 8 (js 4), aI G (ad 16) 4 (js 0), aR G (ad 17) 40 rr, oW (ad 18) [.ref (ad 19), .ref (ad 20), zv 3], aI G (ad 19) 4 (js 5), aI G (ad 20) 8 (js 6)] ++ rp) (fun r u => r = resR ovf Ef.length ∧ XR Ef (jx j Ef.length) u.2.1 u.2.2.1 ∧ XS Sf (u.2.2.1 5)) (fun u => [oX (ad 0) [.int (nI n), .int (nI room), .int (nI Sx), .int (nI Kx), .ref (ad 17), .int (nI rs.length), .ref (ad 1), .ref (ad 2), .int (nI ps.length), .ref (u.1 1), .ref (u.1 2), .ref (u.1 3), .ref (u.1 4), .ref (u.1 5), .ref (u.1 6), .int (nI Ef.length), .int (nI Sf.length), .ref (u.1 7), .int (boF ovf Ef.length), .int (fuF ovf), .int (nI mdf), .int (nI agf), .ref (ad 18), .ref (ad 10), .ref (ad 13), .ref (ad 16), u.2.2.2.2 2], aZ G (ad 1) 64 fb, aI G (ad 2) 96 fn, aJ G (u.1 1) (64 * 2 ^ (jx j Ef.length)) u.2.1, aI G (u.1 2) (64 * 2 ^ (jx j Ef.length)) (u.2.2.1 2), aI G (u.1 3) (64 * 2 ^ (jx j Ef.length)) (u.2.2.1 3), aI G (u.1 4) (64 * 2 ^ (jx j Ef.length)) (u.2.2.1 4), aI G (u.1 5) (64 * 2 ^ (jx j Ef.length)) (u.2.2.1 5), aI G (u.1 6) (64 * 2 ^ (jx j Ef.length)) (u.2.2.1 6), aI G (u.1 7) (2 ^ (8 + (jx j Ef.length))) (u.2.2.1 7), oW (ad 10) [.ref (ad 11), .ref (ad 12), u.2.2.2.2 0], aI G (ad 11) 4 (u.2.2.2.1 1), aI G (ad 12) 8 (u.2.2.2.1 2), oW (ad 13) [.ref (ad 14), .ref (ad 15), u.2.2.2.2 1], aI G (ad 14) 4 (u.2.2.2.1 3), aI G (ad 15) 8 (u.2.2.2.1 4), aI G (ad 16) 4 (u.2.2.2.1 0), aR G (ad 17) 40 rr, oW (ad 18) [.ref (ad 19), .ref (ad 20), u.2.2.2.2 3], aI G (ad 19) 4 (u.2.2.2.1 5), aI G (ad 20) 8 (u.2.2.2.1 6)] ++ rp) := by
  refine Ctr.start (by decide) (Nat.le_of_ble_eq_true rfl) ?_
  intro zp ze zs zm below meth zc A ls C0 hin hK hA hl hw
  obtain ⟨hx, hb, hr, hlk, hml, hown, hts⟩ := C0
  obtain ⟨R, hRR⟩ : ∃ R : Room, R = rmL 7 (7 * (jx j Ef.length - j)) (1280 * 2 ^ jx j Ef.length - 1280 * 2 ^ j) := ⟨_, rfl⟩
  have hRf : R.frames = 7 := by rw [hRR]
  have hRl : R.locals = 64 * 7 := by rw [hRR]
  have hRc : R.cells = 7 * (jx j Ef.length - j) := by rw [hRR]
  have hRs : R.slots = 1280 * 2 ^ jx j Ef.length - 1280 * 2 ^ j := by rw [hRR]
  rw [← hRR]; clear hRR
  generalize hQ : MQ below _ _ zs _ _ A = Q
  generalize hAr : List.toArray _ = args at hts hQ ⊢
  replace hl : lv_has ls 1 [(0, .ref (ad 0))] := hl
  obtain ⟨H, eH⟩ : ∃ H : Heap, H = zs.heap := ⟨_, rfl⟩
  obtain ⟨locs, eL⟩ : ∃ l0 : List Loc, l0 = [] := ⟨_, rfl⟩
  rw [← eH, ← eL] at hw ⊢; clear eH eL
  refine lv_aload_n hx hb d_X_run_0 rfl (lv_at hl 0 rfl) ?_
  obtain ⟨⟨E1, ag1, ov1⟩, hst1⟩ : ∃ z : List Ent × Nat × Nat, bgA ps B n room E ag ov = z := ⟨_, rfl⟩
  have hst2 : bgS ps B n room (E, S, md, ag, ov) = (E1, S, md, ag1, ov1) := by unfold bgS; rw [hst1]
  have hb := bgS_ok (B := B) hSI hcf.2.2.1 hcf.2.2.2.2.1 hcf.1 hroom
  rw [hst2] at hb hst
  obtain ⟨hSI1, hL1, hpos1⟩ := hb
  dsimp only at hL1 hpos1
  have hE1 : E1.length ≤ 8192 := Nat.le_trans hSI1.1.2.2.1 hSI1.1.2.2.2
  have hLf := rnA_len (ps := ps) (B := B) (n := n) (room := room) (rs := rs) 8193 (E1, S, md, ag1, ov1)
  rw [hst] at hLf
  dsimp only at hLf
  have hJb := jx_room (j := j) hL1 hLf
  refine xVA_v (rest := []) (As := []) hx hb hml hown hts hK hA hw k_X_237 (c_X_begin zl G ad qa fm fs js zv fb fn rr rp n room Sx Kx S.length j ps B rs E E1 md ag ov ag1 ov1 hcf hX hSI.1 hSI.2.1 hSI.2.2.2 hE1 hst1) 0 rfl rfl rfl rfl hl.1 (Nat.le_of_ble_eq_true rfl) ⟨(by omega), (by omega)⟩ ⟨(by omega), (by omega)⟩ d_X_run_1 (fun _ u9 H locs hp hw1 => ?_)
  obtain ⟨qa1, fm1, fs1, js1, zv1⟩ := u9
  obtain ⟨hX1, ho1⟩ := hp
  dsimp only at hX1 ho1
  replace hw : WW G A zs ([oX (ad 0) [.int (nI n), .int (nI room), .int (nI Sx), .int (nI Kx), .ref (ad 17), .int (nI rs.length), .ref (ad 1), .ref (ad 2), .int (nI ps.length), .ref (qa1 1), .ref (qa1 2), .ref (qa1 3), .ref (qa1 4), .ref (qa1 5), .ref (qa1 6), .int (nI E1.length), .int (nI S.length), .ref (qa1 7), .int (boF ov1 E1.length), .int (fuF ov1), .int (nI md), .int (nI ag1), .ref (ad 18), .ref (ad 10), .ref (ad 13), .ref (ad 16), zv1 2], aZ G (ad 1) 64 fb, aI G (ad 2) 96 fn, aJ G (qa1 1) (64 * 2 ^ (jx j E1.length)) fm1, aI G (qa1 2) (64 * 2 ^ (jx j E1.length)) (fs1 2), aI G (qa1 3) (64 * 2 ^ (jx j E1.length)) (fs1 3), aI G (qa1 4) (64 * 2 ^ (jx j E1.length)) (fs1 4), aI G (qa1 5) (64 * 2 ^ (jx j E1.length)) (fs1 5), aI G (qa1 6) (64 * 2 ^ (jx j E1.length)) (fs1 6), aI G (qa1 7) (2 ^ (8 + (jx j E1.length))) (fs1 7), oW (ad 10) [.ref (ad 11), .ref (ad 12), zv1 0], aI G (ad 11) 4 (js1 1), aI G (ad 12) 8 (js1 2), oW (ad 13) [.ref (ad 14), .ref (ad 15), zv1 1], aI G (ad 14) 4 (js1 3), aI G (ad 15) 8 (js1 4), aI G (ad 16) 4 (js1 0), aR G (ad 17) 40 rr, oW (ad 18) [.ref (ad 19), .ref (ad 20), zv1 3], aI G (ad 19) 4 (js1 5), aI G (ad 20) 8 (js1 6)] ++ rp) H locs := hw1
  have Lp4 : ∀ N_4 : Nat, ∀ (f : Nat) (E2 : List Ent) (S2 : List Nat) (md2 : Nat) (ag2 : Nat) (ov2 : Nat) (qa2 : Nat → Nat) (fm2 : Nat → Int64) (fs2 : Nat → Nat → Int32) (js2 : Nat → Nat → Int32) (zv2 : Nat → Value), (rnA ps B n room rs f (E2, S2, md2, ag2, ov2) = (Ef, Sf, mdf, agf, ovf)) → (SI n room (E2, S2, md2, ag2, ov2)) → (XR E2 (jx j E2.length) fm2 fs2) → (XS S2 (fs2 5)) → (ov2 = 0 → room < S2.length + f) → f < N_4 → ∀ (H : Heap) (locs : List Loc) (ls : Array Slot), lv_has ls 1 [(0, .ref (ad 0))] → WW G A zs ([oX (ad 0) [.int (nI n), .int (nI room), .int (nI Sx), .int (nI Kx), .ref (ad 17), .int (nI rs.length), .ref (ad 1), .ref (ad 2), .int (nI ps.length), .ref (qa2 1), .ref (qa2 2), .ref (qa2 3), .ref (qa2 4), .ref (qa2 5), .ref (qa2 6), .int (nI E2.length), .int (nI S2.length), .ref (qa2 7), .int (boF ov2 E2.length), .int (fuF ov2), .int (nI md2), .int (nI ag2), .ref (ad 18), .ref (ad 10), .ref (ad 13), .ref (ad 16), zv2 2], aZ G (ad 1) 64 fb, aI G (ad 2) 96 fn, aJ G (qa2 1) (64 * 2 ^ (jx j E2.length)) fm2, aI G (qa2 2) (64 * 2 ^ (jx j E2.length)) (fs2 2), aI G (qa2 3) (64 * 2 ^ (jx j E2.length)) (fs2 3), aI G (qa2 4) (64 * 2 ^ (jx j E2.length)) (fs2 4), aI G (qa2 5) (64 * 2 ^ (jx j E2.length)) (fs2 5), aI G (qa2 6) (64 * 2 ^ (jx j E2.length)) (fs2 6), aI G (qa2 7) (2 ^ (8 + (jx j E2.length))) (fs2 7), oW (ad 10) [.ref (ad 11), .ref (ad 12), zv2 0], aI G (ad 11) 4 (js2 1), aI G (ad 12) 8 (js2 2), oW (ad 13) [.ref (ad 14), .ref (ad 15), zv2 1], aI G (ad 14) 4 (js2 3), aI G (ad 15) 8 (js2 4), aI G (ad 16) 4 (js2 0), aR G (ad 17) 40 rr, oW (ad 18) [.ref (ad 19), .ref (ad 20), zv2 3], aI G (ad 19) 4 (js2 5), aI G (ad 20) 8 (js2 6)] ++ rp) H locs → W zp zl ze R zs zm args below meth zc H locs (7 * (jx j E2.length - j)) (1280 * 2 ^ jx j E2.length - 1280 * 2 ^ j) Q (F0 zm 4 ls []) := by
    intro N_4
    induction N_4 with
    | zero => intros; omega
    | succ N_4 ih_4 =>
      intro f E2 S2 md2 ag2 ov2 qa2 fm2 fs2 js2 zv2 hσ hSI2 hX2 hXS2 hf hN_4 H locs ls hl hw
      have hLf2 := rnA_len (ps := ps) (B := B) (n := n) (room := room) (rs := rs) f (E2, S2, md2, ag2, ov2)
      rw [hσ] at hLf2
      have hSl := hSI2.2.2.1
      have hE8 := hSI2.1.2.2
      have ho22 := hSI2.2.1
      dsimp only at hLf2 hSl hE8 ho22
      have hJ0 := jx_room (j := j) (Nat.le_refl E2.length) hLf2
      refine lv_aload_n hx hb d_X_run_4 rfl (lv_at hl 0 rfl) ?_
      refine xV_i (rest := []) (As := []) hx hb hml hown hts hK hA hw k_X_207 (c_X_isOver zl G (ad 0) (.int (nI n)) (.int (nI room)) (.int (nI Sx)) (.int (nI Kx)) (.ref (ad 17)) (.int (nI rs.length)) (.ref (ad 1)) (.ref (ad 2)) (.int (nI ps.length)) (.ref (qa2 1)) (.ref (qa2 2)) (.ref (qa2 3)) (.ref (qa2 4)) (.ref (qa2 5)) (.ref (qa2 6)) (.int (nI E2.length)) (.int (nI S2.length)) (.ref (qa2 7)) (.int (nI md2)) (.int (nI ag2)) (.ref (ad 18)) (.ref (ad 10)) (.ref (ad 13)) (.ref (ad 16)) (zv2 2) (boF ov2 E2.length) (fuF ov2)) ([0]) rfl rfl (fun _ => Nat.le_of_ble_eq_true rfl) 0 rfl rfl rfl rfl hl.1 (Nat.le_of_ble_eq_true rfl) ⟨(by omega), (by omega)⟩ ⟨(by omega), (by omega)⟩ d_X_run_5 (fun r u H locs hp hw1 => ?_)
      refine W.cs (cells' := 7 * (jx j E2.length - j)) (slots' := 1280 * 2 ^ jx j E2.length - 1280 * 2 ^ j) rfl rfl ?_
      replace hw : WW G A zs ([oX (ad 0) [.int (nI n), .int (nI room), .int (nI Sx), .int (nI Kx), .ref (ad 17), .int (nI rs.length), .ref (ad 1), .ref (ad 2), .int (nI ps.length), .ref (qa2 1), .ref (qa2 2), .ref (qa2 3), .ref (qa2 4), .ref (qa2 5), .ref (qa2 6), .int (nI E2.length), .int (nI S2.length), .ref (qa2 7), .int (boF ov2 E2.length), .int (fuF ov2), .int (nI md2), .int (nI ag2), .ref (ad 18), .ref (ad 10), .ref (ad 13), .ref (ad 16), zv2 2], aZ G (ad 1) 64 fb, aI G (ad 2) 96 fn, aJ G (qa2 1) (64 * 2 ^ (jx j E2.length)) fm2, aI G (qa2 2) (64 * 2 ^ (jx j E2.length)) (fs2 2), aI G (qa2 3) (64 * 2 ^ (jx j E2.length)) (fs2 3), aI G (qa2 4) (64 * 2 ^ (jx j E2.length)) (fs2 4), aI G (qa2 5) (64 * 2 ^ (jx j E2.length)) (fs2 5), aI G (qa2 6) (64 * 2 ^ (jx j E2.length)) (fs2 6), aI G (qa2 7) (2 ^ (8 + (jx j E2.length))) (fs2 7), oW (ad 10) [.ref (ad 11), .ref (ad 12), zv2 0], aI G (ad 11) 4 (js2 1), aI G (ad 12) 8 (js2 2), oW (ad 13) [.ref (ad 14), .ref (ad 15), zv2 1], aI G (ad 14) 4 (js2 3), aI G (ad 15) 8 (js2 4), aI G (ad 16) 4 (js2 0), aR G (ad 17) 40 rr, oW (ad 18) [.ref (ad 19), .ref (ad 20), zv2 3], aI G (ad 19) 4 (js2 5), aI G (ad 20) 8 (js2 6)] ++ rp) H locs := hw1
      refine lv_if_ne (tgt := 54) hx hb d_X_run_8 (by decide) (fun c_8 => ?_) (fun c_8 => ?_)
      · skip
        have hstop : ¬ (ov2 = 0 ∧ S2.length < E2.length) := fun z => c_8 (by rw [hp, if_pos ((over_iff (m := E2.length) ho22 (by omega)).mpr z.1)]; rfl)
        rw [rnA_stop (σ := (E2, S2, md2, ag2, ov2)) hstop f] at hσ
        obtain ⟨rfl, rfl, rfl, rfl, rfl⟩ := five_eq hσ.symm
        refine lv_aload_n hx hb d_X_run_54 rfl (lv_at hl 0 rfl) ?_
        refine g_X_49 hx hb hts hown hK hw 0 rfl rfl d_X_run_55 ?_
        refine lv_iconst (v := -1) hx hb d_X_run_58 (by decide) ?_
        refine lv_icmp_eq (tgt := 67) hx hb d_X_run_59 (by decide) (fun c_59 => ?_) (fun c_59 => ?_)
        · skip
          refine lv_aload_n hx hb d_X_run_67 rfl (lv_at hl 0 rfl) ?_
          refine g_X_105 hx hb hts hown hK hw 0 rfl rfl d_X_run_68 ?_
          refine lv_if_eq (tgt := 78) hx hb d_X_run_71 (by decide) (fun c_71 => ?_) (fun c_71 => ?_)
          · skip
            refine lv_aload_n hx hb d_X_run_78 rfl (lv_at hl 0 rfl) ?_
            refine g_X_99 hx hb hts hown hK hw 0 rfl rfl d_X_run_79 ?_
            exact r_ret hQ (r_iret (qa2, fm2, fs2, js2, zv2) hx hb hr hlk hw (⟨(run_0 c_59 c_71 (by omega) ho22), hX2, hXS2⟩) (by omega) (by omega) d_X_run_82)
          · skip
            refine lv_iconst (v := -1) hx hb d_X_run_74 (by decide) ?_
            refine lv_goto (tgt := 82) hx hb d_X_run_75 (by decide) ?_
            exact r_ret hQ (r_iret (qa2, fm2, fs2, js2, zv2) hx hb hr hlk hw (⟨(run_2 c_59 c_71 ho22), hX2, hXS2⟩) (by omega) (by omega) d_X_run_82)
        · skip
          refine lv_bipush (v := -2) hx hb d_X_run_62 (by decide) ?_
          refine lv_goto (tgt := 82) hx hb d_X_run_64 (by decide) ?_
          exact r_ret hQ (r_iret (qa2, fm2, fs2, js2, zv2) hx hb hr hlk hw (⟨(run_1 c_59), hX2, hXS2⟩) (by omega) (by omega) d_X_run_82)
      · skip
        have hov2 : ov2 = 0 := (over_iff (m := E2.length) ho22 (by omega)).mp (Decidable.byContradiction fun z => absurd c_8 (by rw [hp, if_neg z]; decide))
        refine lv_aload_n hx hb d_X_run_11 rfl (lv_at hl 0 rfl) ?_
        refine g_X_102 hx hb hts hown hK hw 0 rfl rfl d_X_run_12 ?_
        refine lv_aload_n hx hb d_X_run_15 rfl (lv_at hl 0 rfl) ?_
        refine g_X_99 hx hb hts hown hK hw 0 rfl rfl d_X_run_16 ?_
        refine r_icmp_ge (tgt := 54) hx hb (by omega) (by omega) d_X_run_19 (by decide) (fun c_19 => ?_) (fun c_19 => ?_)
        · skip
          have hstop : ¬ (ov2 = 0 ∧ S2.length < E2.length) := fun z => by omega
          rw [rnA_stop (σ := (E2, S2, md2, ag2, ov2)) hstop f] at hσ
          obtain ⟨rfl, rfl, rfl, rfl, rfl⟩ := five_eq hσ.symm
          refine lv_aload_n hx hb d_X_run_54 rfl (lv_at hl 0 rfl) ?_
          refine g_X_49 hx hb hts hown hK hw 0 rfl rfl d_X_run_55 ?_
          refine lv_iconst (v := -1) hx hb d_X_run_58 (by decide) ?_
          refine lv_icmp_eq (tgt := 67) hx hb d_X_run_59 (by decide) (fun c_59 => ?_) (fun c_59 => ?_)
          · skip
            refine lv_aload_n hx hb d_X_run_67 rfl (lv_at hl 0 rfl) ?_
            refine g_X_105 hx hb hts hown hK hw 0 rfl rfl d_X_run_68 ?_
            refine lv_if_eq (tgt := 78) hx hb d_X_run_71 (by decide) (fun c_71 => ?_) (fun c_71 => ?_)
            · skip
              refine lv_aload_n hx hb d_X_run_78 rfl (lv_at hl 0 rfl) ?_
              refine g_X_99 hx hb hts hown hK hw 0 rfl rfl d_X_run_79 ?_
              exact r_ret hQ (r_iret (qa2, fm2, fs2, js2, zv2) hx hb hr hlk hw (⟨(run_0 c_59 c_71 (by omega) ho22), hX2, hXS2⟩) (by omega) (by omega) d_X_run_82)
            · skip
              refine lv_iconst (v := -1) hx hb d_X_run_74 (by decide) ?_
              refine lv_goto (tgt := 82) hx hb d_X_run_75 (by decide) ?_
              exact r_ret hQ (r_iret (qa2, fm2, fs2, js2, zv2) hx hb hr hlk hw (⟨(run_2 c_59 c_71 ho22), hX2, hXS2⟩) (by omega) (by omega) d_X_run_82)
          · skip
            refine lv_bipush (v := -2) hx hb d_X_run_62 (by decide) ?_
            refine lv_goto (tgt := 82) hx hb d_X_run_64 (by decide) ?_
            exact r_ret hQ (r_iret (qa2, fm2, fs2, js2, zv2) hx hb hr hlk hw (⟨(run_1 c_59), hX2, hXS2⟩) (by omega) (by omega) d_X_run_82)
        · skip
          have hgl : S2.length < E2.length := c_19
          refine lv_aload_n hx hb d_X_run_22 rfl (lv_at hl 0 rfl) ?_
          refine lv_aload_n hx hb d_X_run_23 rfl (lv_at hl 0 rfl) ?_
          refine g_X_102 hx hb hts hown hK hw 0 rfl rfl d_X_run_24 ?_
          obtain ⟨f1, rfl⟩ : ∃ f1, f = f1 + 1 := ⟨f - 1, by have := hf hov2; omega⟩
          rw [rnA_go (σ := (E2, S2, md2, ag2, ov2)) ⟨hov2, hgl⟩] at hσ
          obtain ⟨⟨E3, cnt3, md3, ag3, ov3⟩, hst3⟩ : ∃ z : E5, nodesA ps B n room (E2.getD S2.length eD).1 S2.length rs n (E2, 0, md2, ag2, ov2) = z := ⟨_, rfl⟩
          have hst4 : goS ps B n room rs (E2, S2, md2, ag2, ov2) = (E3, (if ov3 = 0 then S2 ++ [cnt3] else S2), md3, ag3, ov3) := by unfold goS goN; rw [hst3]; rfl
          have hok := goS_ok (B := B) (rs := rs) hSI2 hcf.2.2.1 hcf.2.2.2.2.1 hcf.1 hrp.2.1 hgl
          rw [hst4] at hok hσ
          have hL2 := goN_len (ps := ps) (B := B) (n := n) (room := room) (rs := rs) (σ := (E2, S2, md2, ag2, ov2))
          unfold goN at hL2
          rw [hst3] at hL2
          have hL3 := rnA_len (ps := ps) (B := B) (n := n) (room := room) (rs := rs) f1 (E3, (if ov3 = 0 then S2 ++ [cnt3] else S2), md3, ag3, ov3)
          rw [hσ] at hL3
          dsimp only at hL2 hL3
          have hJ := jx_room (j := j) hL2 hL3
          have hJp : 2 ^ jx (jx j E2.length) E3.length = 2 ^ jx j E3.length := by rw [hJ.1]
          refine xVA_v (rest := []) (As := [.int (nI S2.length)]) hx hb hml hown hts hK hA hw k_X_240 (c_X_goThrough zl G ad qa2 fm2 fs2 js2 zv2 fb fn rr rp n room Sx Kx S2.length (jx j E2.length) ps B rs E2 E3 md2 ag2 ov2 cnt3 md3 ag3 ov3 S2.length (E2.getD S2.length eD).1 hcf hX2 hSI2.1 hSI2.2.1 hrp hgl rfl hst3) 0 rfl rfl rfl rfl hl.1 (Nat.le_of_ble_eq_true rfl) ⟨(by omega), (by omega)⟩ ⟨(by omega), (by omega)⟩ d_X_run_27 (fun _ u9 H locs hp hw1 => ?_)
          obtain ⟨qa3, fm3, fs3, js3, zv3⟩ := u9
          obtain ⟨hX3, hc3, ho3⟩ := hp
          dsimp only at hX3 hc3 ho3
          rw [hJ.1] at hX3
          replace hw : WW G A zs ([oX (ad 0) [.int (nI n), .int (nI room), .int (nI Sx), .int (nI Kx), .ref (ad 17), .int (nI rs.length), .ref (ad 1), .ref (ad 2), .int (nI ps.length), .ref (qa3 1), .ref (qa3 2), .ref (qa3 3), .ref (qa3 4), .ref (qa3 5), .ref (qa3 6), .int (nI E3.length), .int (nI S2.length), .ref (qa3 7), .int (boF ov3 E3.length), .int (fuF ov3), .int (nI md3), .int (nI ag3), .ref (ad 18), .ref (ad 10), .ref (ad 13), .ref (ad 16), zv3 2], aZ G (ad 1) 64 fb, aI G (ad 2) 96 fn, aJ G (qa3 1) (64 * 2 ^ (jx j E3.length)) fm3, aI G (qa3 2) (64 * 2 ^ (jx j E3.length)) (fs3 2), aI G (qa3 3) (64 * 2 ^ (jx j E3.length)) (fs3 3), aI G (qa3 4) (64 * 2 ^ (jx j E3.length)) (fs3 4), aI G (qa3 5) (64 * 2 ^ (jx j E3.length)) (fs3 5), aI G (qa3 6) (64 * 2 ^ (jx j E3.length)) (fs3 6), aI G (qa3 7) (2 ^ (8 + (jx j E3.length))) (fs3 7), oW (ad 10) [.ref (ad 11), .ref (ad 12), zv3 0], aI G (ad 11) 4 (js3 1), aI G (ad 12) 8 (js3 2), oW (ad 13) [.ref (ad 14), .ref (ad 15), zv3 1], aI G (ad 14) 4 (js3 3), aI G (ad 15) 8 (js3 4), aI G (ad 16) 4 (js3 0), aR G (ad 17) 40 rr, oW (ad 18) [.ref (ad 19), .ref (ad 20), zv3 3], aI G (ad 19) 4 (js3 5), aI G (ad 20) 8 (js3 6)] ++ rp) H locs := by rw [← hJ.1]; exact hw1
          refine lv_aload_n hx hb d_X_run_30 rfl (lv_at hl 0 rfl) ?_
          refine lv_dup hx hb d_X_run_31 rfl ?_
          refine g_X_102 hx hb hts hown hK hw 0 rfl rfl d_X_run_32 ?_
          refine lv_aload_n hx hb d_X_run_35 rfl (lv_at hl 0 rfl) ?_
          refine xV_i (rest := [.int (nI S2.length), .ref (ad 0)]) (As := []) hx hb hml hown hts hK hA hw k_X_207 (c_X_isOver zl G (ad 0) (.int (nI n)) (.int (nI room)) (.int (nI Sx)) (.int (nI Kx)) (.ref (ad 17)) (.int (nI rs.length)) (.ref (ad 1)) (.ref (ad 2)) (.int (nI ps.length)) (.ref (qa3 1)) (.ref (qa3 2)) (.ref (qa3 3)) (.ref (qa3 4)) (.ref (qa3 5)) (.ref (qa3 6)) (.int (nI E3.length)) (.int (nI S2.length)) (.ref (qa3 7)) (.int (nI md3)) (.int (nI ag3)) (.ref (ad 18)) (.ref (ad 10)) (.ref (ad 13)) (.ref (ad 16)) (zv3 2) (boF ov3 E3.length) (fuF ov3)) ([0]) rfl rfl (fun _ => Nat.le_of_ble_eq_true rfl) 0 rfl rfl rfl rfl hl.1 (Nat.le_of_ble_eq_true rfl) ⟨(by omega), (by omega)⟩ ⟨(by omega), (by omega)⟩ d_X_run_36 (fun r u H locs hp hw1 => ?_)
          refine W.cs (cells' := 7 * (jx j E2.length - j) + (7 * (jx (jx j E2.length) E3.length - jx j E2.length))) (slots' := 1280 * 2 ^ jx j E2.length - 1280 * 2 ^ j + (1280 * 2 ^ jx (jx j E2.length) E3.length - 1280 * 2 ^ jx j E2.length)) rfl rfl ?_
          replace hw : WW G A zs ([oX (ad 0) [.int (nI n), .int (nI room), .int (nI Sx), .int (nI Kx), .ref (ad 17), .int (nI rs.length), .ref (ad 1), .ref (ad 2), .int (nI ps.length), .ref (qa3 1), .ref (qa3 2), .ref (qa3 3), .ref (qa3 4), .ref (qa3 5), .ref (qa3 6), .int (nI E3.length), .int (nI S2.length), .ref (qa3 7), .int (boF ov3 E3.length), .int (fuF ov3), .int (nI md3), .int (nI ag3), .ref (ad 18), .ref (ad 10), .ref (ad 13), .ref (ad 16), zv3 2], aZ G (ad 1) 64 fb, aI G (ad 2) 96 fn, aJ G (qa3 1) (64 * 2 ^ (jx j E3.length)) fm3, aI G (qa3 2) (64 * 2 ^ (jx j E3.length)) (fs3 2), aI G (qa3 3) (64 * 2 ^ (jx j E3.length)) (fs3 3), aI G (qa3 4) (64 * 2 ^ (jx j E3.length)) (fs3 4), aI G (qa3 5) (64 * 2 ^ (jx j E3.length)) (fs3 5), aI G (qa3 6) (64 * 2 ^ (jx j E3.length)) (fs3 6), aI G (qa3 7) (2 ^ (8 + (jx j E3.length))) (fs3 7), oW (ad 10) [.ref (ad 11), .ref (ad 12), zv3 0], aI G (ad 11) 4 (js3 1), aI G (ad 12) 8 (js3 2), oW (ad 13) [.ref (ad 14), .ref (ad 15), zv3 1], aI G (ad 14) 4 (js3 3), aI G (ad 15) 8 (js3 4), aI G (ad 16) 4 (js3 0), aR G (ad 17) 40 rr, oW (ad 18) [.ref (ad 19), .ref (ad 20), zv3 3], aI G (ad 19) 4 (js3 5), aI G (ad 20) 8 (js3 6)] ++ rp) H locs := hw1
          refine lv_if_eq (tgt := 46) hx hb d_X_run_39 (by decide) (fun c_39 => ?_) (fun c_39 => ?_)
          · skip
            have hov3 : ov3 = 0 := (over_iff (m := E3.length) hok.1.2.1 (by have := hok.1.1.2.2; dsimp only at this; omega)).mp (Decidable.byContradiction fun z => absurd c_39 (by rw [hp, if_neg z]; decide))
            refine lv_iconst (v := nI 1) hx hb d_X_run_46 rfl ?_
            refine r_iaddN hx hb d_X_run_47 ?_
            refine r_eq (show nI (S2.length + 1) = nI ((S2 ++ [cnt3]).length) from congrArg nI (by rw [List.length_append]; rfl)) ?_
            refine p_X_102 hx hb hts hown hK hw 0 rfl (Nat.le_of_ble_eq_true rfl) d_X_run_48 (fun H locs hw1 => ?_)
            replace hw : WW G A zs ([oX (ad 0) [.int (nI n), .int (nI room), .int (nI Sx), .int (nI Kx), .ref (ad 17), .int (nI rs.length), .ref (ad 1), .ref (ad 2), .int (nI ps.length), .ref (qa3 1), .ref (qa3 2), .ref (qa3 3), .ref (qa3 4), .ref (qa3 5), .ref (qa3 6), .int (nI E3.length), .int (nI ((S2 ++ [cnt3]).length)), .ref (qa3 7), .int (boF ov3 E3.length), .int (fuF ov3), .int (nI md3), .int (nI ag3), .ref (ad 18), .ref (ad 10), .ref (ad 13), .ref (ad 16), zv3 2], aZ G (ad 1) 64 fb, aI G (ad 2) 96 fn, aJ G (qa3 1) (64 * 2 ^ (jx j E3.length)) fm3, aI G (qa3 2) (64 * 2 ^ (jx j E3.length)) (fs3 2), aI G (qa3 3) (64 * 2 ^ (jx j E3.length)) (fs3 3), aI G (qa3 4) (64 * 2 ^ (jx j E3.length)) (fs3 4), aI G (qa3 5) (64 * 2 ^ (jx j E3.length)) (fs3 5), aI G (qa3 6) (64 * 2 ^ (jx j E3.length)) (fs3 6), aI G (qa3 7) (2 ^ (8 + (jx j E3.length))) (fs3 7), oW (ad 10) [.ref (ad 11), .ref (ad 12), zv3 0], aI G (ad 11) 4 (js3 1), aI G (ad 12) 8 (js3 2), oW (ad 13) [.ref (ad 14), .ref (ad 15), zv3 1], aI G (ad 14) 4 (js3 3), aI G (ad 15) 8 (js3 4), aI G (ad 16) 4 (js3 0), aR G (ad 17) 40 rr, oW (ad 18) [.ref (ad 19), .ref (ad 20), zv3 3], aI G (ad 19) 4 (js3 5), aI G (ad 20) 8 (js3 6)] ++ rp) H locs := hw1
            refine lv_goto (tgt := 4) hx hb d_X_run_51 (by decide) ?_
            refine W.widen (k := 7 * (jx j E3.length - j)) (n := 1280 * 2 ^ jx j E3.length - 1280 * 2 ^ j) (by omega) (by omega) ?_
            exact ih_4 f1 E3 (S2 ++ [cnt3]) md3 ag3 ov3 qa3 fm3 fs3 js3 zv3 (by rw [if_pos hov3] at hσ; exact hσ) (by have hz := hok.1; rw [if_pos hov3] at hz; exact hz) hX3 (XS.snoc (fun i hi => by rw [ho3 i (by omega) (by omega)]; exact hXS2 i hi) hc3) (fun _ => by rw [List.length_append]; have := hf hov2; simp only [List.length_singleton]; omega) (by omega) _ _ _ (lv_sub hl [0] rfl) hw
          · skip
            have hov3 : ¬ ov3 = 0 := fun z => c_39 (by rw [hp, if_pos ((over_iff (m := E3.length) hok.1.2.1 (by have := hok.1.1.2.2; dsimp only at this; omega)).mpr z)]; rfl)
            refine lv_iconst (v := nI 0) hx hb d_X_run_42 rfl ?_
            refine lv_goto (tgt := 47) hx hb d_X_run_43 (by decide) ?_
            refine r_iaddN hx hb d_X_run_47 ?_
            refine r_eq (show nI (S2.length + 0) = nI S2.length from congrArg nI (Nat.add_zero _)) ?_
            refine p_X_102 hx hb hts hown hK hw 0 rfl (Nat.le_of_ble_eq_true rfl) d_X_run_48 (fun H locs hw1 => ?_)
            replace hw : WW G A zs ([oX (ad 0) [.int (nI n), .int (nI room), .int (nI Sx), .int (nI Kx), .ref (ad 17), .int (nI rs.length), .ref (ad 1), .ref (ad 2), .int (nI ps.length), .ref (qa3 1), .ref (qa3 2), .ref (qa3 3), .ref (qa3 4), .ref (qa3 5), .ref (qa3 6), .int (nI E3.length), .int (nI S2.length), .ref (qa3 7), .int (boF ov3 E3.length), .int (fuF ov3), .int (nI md3), .int (nI ag3), .ref (ad 18), .ref (ad 10), .ref (ad 13), .ref (ad 16), zv3 2], aZ G (ad 1) 64 fb, aI G (ad 2) 96 fn, aJ G (qa3 1) (64 * 2 ^ (jx j E3.length)) fm3, aI G (qa3 2) (64 * 2 ^ (jx j E3.length)) (fs3 2), aI G (qa3 3) (64 * 2 ^ (jx j E3.length)) (fs3 3), aI G (qa3 4) (64 * 2 ^ (jx j E3.length)) (fs3 4), aI G (qa3 5) (64 * 2 ^ (jx j E3.length)) (fs3 5), aI G (qa3 6) (64 * 2 ^ (jx j E3.length)) (fs3 6), aI G (qa3 7) (2 ^ (8 + (jx j E3.length))) (fs3 7), oW (ad 10) [.ref (ad 11), .ref (ad 12), zv3 0], aI G (ad 11) 4 (js3 1), aI G (ad 12) 8 (js3 2), oW (ad 13) [.ref (ad 14), .ref (ad 15), zv3 1], aI G (ad 14) 4 (js3 3), aI G (ad 15) 8 (js3 4), aI G (ad 16) 4 (js3 0), aR G (ad 17) 40 rr, oW (ad 18) [.ref (ad 19), .ref (ad 20), zv3 3], aI G (ad 19) 4 (js3 5), aI G (ad 20) 8 (js3 6)] ++ rp) H locs := hw1
            refine lv_goto (tgt := 4) hx hb d_X_run_51 (by decide) ?_
            refine W.widen (k := 7 * (jx j E3.length - j)) (n := 1280 * 2 ^ jx j E3.length - 1280 * 2 ^ j) (by omega) (by omega) ?_
            exact ih_4 f1 E3 S2 md3 ag3 ov3 qa3 fm3 fs3 js3 zv3 (by rw [if_neg hov3] at hσ; exact hσ) (by have hz := hok.1; rw [if_neg hov3] at hz; exact hz) hX3 (fun i hi => by rw [ho3 i (by omega) (by omega)]; exact hXS2 i hi) (fun z => absurd z hov3) (by omega) _ _ _ (lv_sub hl [0] rfl) hw
  refine W.widen (k := 7 * (jx j E1.length - j)) (n := 1280 * 2 ^ jx j E1.length - 1280 * 2 ^ j) (by omega) (by omega) ?_
  exact Lp4 _ 8193 E1 S md ag1 ov1 qa1 fm1 fs1 js1 zv1 hst hSI1 hX1 (fun i hi => by rw [ho1 i (Nat.lt_of_lt_of_le hi hSI.2.2.1)]; exact hXS i hi) (fun _ => by have := hSI1.1.2.2.2; omega) (Nat.lt_succ_self _) _ _ _ (lv_sub hl [0] rfl) hw
