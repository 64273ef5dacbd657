theorem step_cnt0 {f : Nat → Int32} {fr : Nat} : upd f fr (nI 0) fr = nI 0 := by rw [upd, if_pos rfl]
theorem evI_n {o : Option Nat} (h : evI o = -1) {R : Rl} (hR : RlOK R) (he : R.2.1 = o) : o = none := by
  cases o with
  | none => rfl
  | some k => exact absurd h (nI_neg (Nat.lt_of_lt_of_le (hR.2.1 k he) (by decide)))
theorem evI_s {o : Option Nat} (h : ¬ evI o = -1) : ∃ k, o = some k := by
  cases o with
  | none => exact absurd rfl h
  | some k => exact ⟨k, rfl⟩
set_option maxHeartbeats 4000000 in
set_option maxRecDepth 100000 in
theorem c_X_goThrough (zl : Launch) (G : GG) (ad qa : Nat → Nat) (fm : Nat → Int64) (fs js : Nat → Nat → Int32) (zv : Nat → Value) (fb fn : Nat → Int32) (rr : Nat → Option Nat) (rp : va_W) (n room Sx Kx gn j : Nat) (ps : List (List Nat)) (B : Nat → Bool) (rs : List Rl) (E E1 : List Ent) (md ag ov cnt1 md1 ag1 ov1 fr : Nat) (w : Wh) (hcf : CF n ps B fb fn) (hX : XR E j fm fs) (hE : EOK n room E) (ho2 : ov ≤ 2) (hrp : RP G rr rs rp) (hfr : fr < E.length) (hwE : (E.getD fr eD).1 = w) (hst : nodesA ps B n room w fr rs n (E, 0, md, ag, ov) = (E1, cnt1, md1, ag1, ov1)) : Ctr (S := (Nat → Nat) × (Nat → Int64) × (Nat → Nat → Int32) × (Nat → Nat → Int32) × (Nat → Value)) vV zl y_X_goThrough b_X_goThrough 4 (Option.none : Option Jvm.ClassFile.FieldType) 6 (7 * (jx j E1.length - j)) (1280 * 2 ^ jx j E1.length - 1280 * 2 ^ j) G [.ref (ad 0), .int (nI fr)] ([oX (ad 0) [.int (nI n), .int (nI room), .int (nI Sx), .int (nI Kx), .ref (ad 17), .int (nI rs.length), .ref (ad 1), .ref (ad 2), .int (nI ps.length), .ref (qa 1), .ref (qa 2), .ref (qa 3), .ref (qa 4), .ref (qa 5), .ref (qa 6), .int (nI E.length), .int (nI gn), .ref (qa 7), .int (boF ov E.length), .int (fuF ov), .int (nI md), .int (nI ag), .ref (ad 18), .ref (ad 10), .ref (ad 13), .ref (ad 16), zv 2], aZ G (ad 1) 64 fb, aI G (ad 2) 96 fn, aJ G (qa 1) (64 * 2 ^ j) fm, aI G (qa 2) (64 * 2 ^ j) (fs 2), aI G (qa 3) (64 * 2 ^ j) (fs 3), aI G (qa 4) (64 * 2 ^ j) (fs 4), aI G (qa 5) (64 * 2 ^ j) (fs 5), aI G (qa 6) (64 * 2 ^ j) (fs 6), aI G (qa 7) (2 ^ (8 + j)) (fs 7), oW (ad 10) [.ref (ad 11), .ref (ad 12), zv 0], aI G (ad 11) 4 (js 1), aI G (ad 12) 8 (js 2), oW (ad 13) [.ref (ad 14), .ref (ad 15), zv 1], aI G (ad 14) 4 (js 3), aI G (ad 15) 8 (js 4), aI G (ad 16) 4 (js 0), aR G (ad 17) 40 rr, oW (ad 18) [.ref (ad 19), .ref (ad 20), zv 3], aI G (ad 19) 4 (js 5), aI G (ad 20) 8 (js 6)] ++ rp) (fun _ u => XR E1 (jx j E1.length) u.2.1 u.2.2.1 ∧ u.2.2.1 5 fr = nI cnt1 ∧ ∀ k, k < E.length → k ≠ fr → u.2.2.1 5 k = fs 5 k) (fun u => [oX (ad 0) [.int (nI n), .int (nI room), .int (nI Sx), .int (nI Kx), .ref (ad 17), .int (nI rs.length), .ref (ad 1), .ref (ad 2), .int (nI ps.length), .ref (u.1 1), .ref (u.1 2), .ref (u.1 3), .ref (u.1 4), .ref (u.1 5), .ref (u.1 6), .int (nI E1.length), .int (nI gn), .ref (u.1 7), .int (boF ov1 E1.length), .int (fuF ov1), .int (nI md1), .int (nI ag1), .ref (ad 18), .ref (ad 10), .ref (ad 13), .ref (ad 16), u.2.2.2.2 2], aZ G (ad 1) 64 fb, aI G (ad 2) 96 fn, aJ G (u.1 1) (64 * 2 ^ (jx j E1.length)) u.2.1, aI G (u.1 2) (64 * 2 ^ (jx j E1.length)) (u.2.2.1 2), aI G (u.1 3) (64 * 2 ^ (jx j E1.length)) (u.2.2.1 3), aI G (u.1 4) (64 * 2 ^ (jx j E1.length)) (u.2.2.1 4), aI G (u.1 5) (64 * 2 ^ (jx j E1.length)) (u.2.2.1 5), aI G (u.1 6) (64 * 2 ^ (jx j E1.length)) (u.2.2.1 6), aI G (u.1 7) (2 ^ (8 + (jx j E1.length))) (u.2.2.1 7), oW (ad 10) [.ref (ad 11), .ref (ad 12), u.2.2.2.2 0], aI G (ad 11) 4 (u.2.2.2.1 1), aI G (ad 12) 8 (u.2.2.2.1 2), oW (ad 13) [.ref (ad 14), .ref (ad 15), u.2.2.2.2 1], aI G (ad 14) 4 (u.2.2.2.1 3), aI G (ad 15) 8 (u.2.2.2.1 4), aI G (ad 16) 4 (u.2.2.2.1 0), aR G (ad 17) 40 rr, oW (ad 18) [.ref (ad 19), .ref (ad 20), u.2.2.2.2 3], aI G (ad 19) 4 (u.2.2.2.1 5), aI G (ad 20) 8 (u.2.2.2.1 6)] ++ rp) := by
  refine Ctr.start (by decide) (Nat.le_of_ble_eq_true rfl) ?_
  intro zp ze zs zm below meth zc A ls C0 hin hK hA hl hw
  obtain ⟨hx, hb, hr, hlk, hml, hown, hts⟩ := C0
  obtain ⟨R, hRR⟩ : ∃ R : Room, R = rmL 6 (7 * (jx j E1.length - j)) (1280 * 2 ^ jx j E1.length - 1280 * 2 ^ j) := ⟨_, rfl⟩
  have hRf : R.frames = 6 := by rw [hRR]
  have hRl : R.locals = 64 * 6 := by rw [hRR]
  have hRc : R.cells = 7 * (jx j E1.length - j) := by rw [hRR]
  have hRs : R.slots = 1280 * 2 ^ jx j E1.length - 1280 * 2 ^ j := by rw [hRR]
  rw [← hRR]; clear hRR
  generalize hQ : MQ below _ _ zs _ _ A = Q
  generalize hAr : List.toArray _ = args at hts hQ ⊢
  replace hl : lv_has ls 4 [(0, .ref (ad 0)), (1, .int (nI fr))] := hl
  obtain ⟨H, eH⟩ : ∃ H : Heap, H = zs.heap := ⟨_, rfl⟩
  obtain ⟨locs, eL⟩ : ∃ l0 : List Loc, l0 = [] := ⟨_, rfl⟩
  rw [← eH, ← eL] at hw ⊢; clear eH eL
  have hjj := jx_in hX.2.2.1 hX.2.2.2
  have hpw := pow_mono hX.2.2.2
  have hln := hX.2.2.1
  have hn4 := hcf.1
  have hrl := hrp.1
  have hV : Vl n w := by rw [← hwE]; exact hE.1 _ (getD_memE hfr)
  have hS0 : SOK n room E (E, 0, md, ag, ov) := ⟨hE, ho2, Nat.le_refl _, fun _ _ => rfl⟩
  have hE80 := hE.2.2
  refine lv_aload_n hx hb d_X_goThrough_0 rfl (lv_at hl 0 rfl) ?_
  refine g_X_55 hx hb hts hown hK hw 0 rfl rfl d_X_goThrough_1 ?_
  refine lv_aload_n hx hb d_X_goThrough_4 rfl (lv_at hl 0 rfl) ?_
  refine g_X_27 hx hb hts hown hK hw 0 rfl rfl d_X_goThrough_5 ?_
  refine lv_iload_n hx hb d_X_goThrough_8 rfl (lv_at hl 1 rfl) ?_
  refine r_lald hx hb hK hw 3 rfl (by omega) (by omega) d_X_goThrough_9 ?_
  refine r_eqJ (show fm fr = lN (pk w) from by rw [(hX.1 fr hfr).1, hwE]) ?_
  refine xV_v (rest := []) (As := [.long (lN (pk w))]) hx hb hml hown hts hK hA hw k_X_227 (c_W_unpack zl G (ad 18) (ad 19) (ad 20) n (zv 3) (js 5) (js 6) w hV) ([18, 19, 20]) rfl rfl (fun _ => Nat.le_of_ble_eq_true rfl) 0 rfl rfl rfl rfl hl.1 (Nat.le_of_ble_eq_true rfl) ⟨(by omega), (by omega)⟩ ⟨(by omega), (by omega)⟩ d_X_goThrough_10 (fun _ u9 H locs hp hw1 => ?_)
  obtain ⟨fh, gh⟩ := u9
  obtain ⟨hfh, hgh⟩ := hp
  dsimp only at hfh hgh
  refine W.cs (cells' := 0) (slots' := 0) rfl rfl ?_
  replace hw : WW G A zs ([oX (ad 0) [.int (nI n), .int (nI room), .int (nI Sx), .int (nI Kx), .ref (ad 17), .int (nI rs.length), .ref (ad 1), .ref (ad 2), .int (nI ps.length), .ref (qa 1), .ref (qa 2), .ref (qa 3), .ref (qa 4), .ref (qa 5), .ref (qa 6), .int (nI E.length), .int (nI gn), .ref (qa 7), .int (boF ov E.length), .int (fuF ov), .int (nI md), .int (nI ag), .ref (ad 18), .ref (ad 10), .ref (ad 13), .ref (ad 16), zv 2], aZ G (ad 1) 64 fb, aI G (ad 2) 96 fn, aJ G (qa 1) (64 * 2 ^ j) fm, aI G (qa 2) (64 * 2 ^ j) (fs 2), aI G (qa 3) (64 * 2 ^ j) (fs 3), aI G (qa 4) (64 * 2 ^ j) (fs 4), aI G (qa 5) (64 * 2 ^ j) (fs 5), aI G (qa 6) (64 * 2 ^ j) (fs 6), aI G (qa 7) (2 ^ (8 + j)) (fs 7), oW (ad 10) [.ref (ad 11), .ref (ad 12), zv 0], aI G (ad 11) 4 (js 1), aI G (ad 12) 8 (js 2), oW (ad 13) [.ref (ad 14), .ref (ad 15), zv 1], aI G (ad 14) 4 (js 3), aI G (ad 15) 8 (js 4), aI G (ad 16) 4 (js 0), aR G (ad 17) 40 rr, oW (ad 18) [.ref (ad 19), .ref (ad 20), .int (nI w.2.length)], aI G (ad 19) 4 fh, aI G (ad 20) 8 gh] ++ rp) H locs := hw1
  refine lv_aload_n hx hb d_X_goThrough_13 rfl (lv_at hl 0 rfl) ?_
  refine g_X_40 hx hb hts hown hK hw 0 rfl rfl d_X_goThrough_14 ?_
  refine lv_iload_n hx hb d_X_goThrough_17 rfl (lv_at hl 1 rfl) ?_
  refine lv_iconst (v := nI 0) hx hb d_X_goThrough_18 rfl ?_
  refine r_iast hx hb hK hw 7 rfl (by omega) (by omega) d_X_goThrough_19 (fun H locs hw1 => ?_)
  replace hw : WW G A zs ([oX (ad 0) [.int (nI n), .int (nI room), .int (nI Sx), .int (nI Kx), .ref (ad 17), .int (nI rs.length), .ref (ad 1), .ref (ad 2), .int (nI ps.length), .ref (qa 1), .ref (qa 2), .ref (qa 3), .ref (qa 4), .ref (qa 5), .ref (qa 6), .int (nI E.length), .int (nI gn), .ref (qa 7), .int (boF ov E.length), .int (fuF ov), .int (nI md), .int (nI ag), .ref (ad 18), .ref (ad 10), .ref (ad 13), .ref (ad 16), zv 2], aZ G (ad 1) 64 fb, aI G (ad 2) 96 fn, aJ G (qa 1) (64 * 2 ^ j) fm, aI G (qa 2) (64 * 2 ^ j) (fs 2), aI G (qa 3) (64 * 2 ^ j) (fs 3), aI G (qa 4) (64 * 2 ^ j) (fs 4), aI G (qa 5) (64 * 2 ^ j) (upd (fs 5) fr (nI 0)), aI G (qa 6) (64 * 2 ^ j) (fs 6), aI G (qa 7) (2 ^ (8 + j)) (fs 7), oW (ad 10) [.ref (ad 11), .ref (ad 12), zv 0], aI G (ad 11) 4 (js 1), aI G (ad 12) 8 (js 2), oW (ad 13) [.ref (ad 14), .ref (ad 15), zv 1], aI G (ad 14) 4 (js 3), aI G (ad 15) 8 (js 4), aI G (ad 16) 4 (js 0), aR G (ad 17) 40 rr, oW (ad 18) [.ref (ad 19), .ref (ad 20), .int (nI w.2.length)], aI G (ad 19) 4 fh, aI G (ad 20) 8 gh] ++ rp) H locs := hw1
  obtain ⟨fs9, efs9⟩ : ∃ g : Nat → Nat → Int32, g = va_up fs 5 (upd (fs 5) fr (nI 0)) := ⟨_, rfl⟩
  replace hw : WW G A zs ([oX (ad 0) [.int (nI n), .int (nI room), .int (nI Sx), .int (nI Kx), .ref (ad 17), .int (nI rs.length), .ref (ad 1), .ref (ad 2), .int (nI ps.length), .ref (qa 1), .ref (qa 2), .ref (qa 3), .ref (qa 4), .ref (qa 5), .ref (qa 6), .int (nI E.length), .int (nI gn), .ref (qa 7), .int (boF ov E.length), .int (fuF ov), .int (nI md), .int (nI ag), .ref (ad 18), .ref (ad 10), .ref (ad 13), .ref (ad 16), zv 2], aZ G (ad 1) 64 fb, aI G (ad 2) 96 fn, aJ G (qa 1) (64 * 2 ^ j) fm, aI G (qa 2) (64 * 2 ^ j) (fs9 2), aI G (qa 3) (64 * 2 ^ j) (fs9 3), aI G (qa 4) (64 * 2 ^ j) (fs9 4), aI G (qa 5) (64 * 2 ^ j) (fs9 5), aI G (qa 6) (64 * 2 ^ j) (fs9 6), aI G (qa 7) (2 ^ (8 + j)) (fs9 7), oW (ad 10) [.ref (ad 11), .ref (ad 12), zv 0], aI G (ad 11) 4 (js 1), aI G (ad 12) 8 (js 2), oW (ad 13) [.ref (ad 14), .ref (ad 15), zv 1], aI G (ad 14) 4 (js 3), aI G (ad 15) 8 (js 4), aI G (ad 16) 4 (js 0), aR G (ad 17) 40 rr, oW (ad 18) [.ref (ad 19), .ref (ad 20), .int (nI w.2.length)], aI G (ad 19) 4 fh, aI G (ad 20) 8 gh] ++ rp) H locs := by rw [efs9]; exact hw
  refine lv_iconst (v := nI 0) hx hb d_X_goThrough_20 rfl ?_
  refine lv_istore_n (lv' := [(2, .int (nI 0)), (0, .ref (ad 0)), (1, .int (nI fr))]) hx hb d_X_goThrough_21 rfl hl (by decide) rfl (fun ls hl => ?_)
  have Lp22 : ∀ N_22 : Nat, ∀ (nd : Nat) (E2 : List Ent) (cnt2 : Nat) (md2 : Nat) (ag2 : Nat) (ov2 : Nat) (qa2 : Nat → Nat) (fm2 : Nat → Int64) (fs2 : Nat → Nat → Int32) (js2 : Nat → Nat → Int32) (zv2 : Nat → Value), (nd ≤ n) → (nodesA ps B n room w fr rs nd (E, 0, md, ag, ov) = (E2, cnt2, md2, ag2, ov2)) → (XR E2 (jx j E2.length) fm2 fs2) → (fs2 5 fr = nI cnt2) → (∀ i, i < E.length → i ≠ fr → fs2 5 i = fs 5 i) → n - nd < N_22 → ∀ (H : Heap) (locs : List Loc) (ls : Array Slot), lv_has ls 4 [(0, .ref (ad 0)), (1, .int (nI fr)), (2, .int (nI nd))] → WW G A zs ([oX (ad 0) [.int (nI n), .int (nI room), .int (nI Sx), .int (nI Kx), .ref (ad 17), .int (nI rs.length), .ref (ad 1), .ref (ad 2), .int (nI ps.length), .ref (qa2 1), .ref (qa2 2), .ref (qa2 3), .ref (qa2 4), .ref (qa2 5), .ref (qa2 6), .int (nI E2.length), .int (nI gn), .ref (qa2 7), .int (boF ov2 E2.length), .int (fuF ov2), .int (nI md2), .int (nI ag2), .ref (ad 18), .ref (ad 10), .ref (ad 13), .ref (ad 16), zv2 2], aZ G (ad 1) 64 fb, aI G (ad 2) 96 fn, aJ G (qa2 1) (64 * 2 ^ (jx j E2.length)) fm2, aI G (qa2 2) (64 * 2 ^ (jx j E2.length)) (fs2 2), aI G (qa2 3) (64 * 2 ^ (jx j E2.length)) (fs2 3), aI G (qa2 4) (64 * 2 ^ (jx j E2.length)) (fs2 4), aI G (qa2 5) (64 * 2 ^ (jx j E2.length)) (fs2 5), aI G (qa2 6) (64 * 2 ^ (jx j E2.length)) (fs2 6), aI G (qa2 7) (2 ^ (8 + (jx j E2.length))) (fs2 7), oW (ad 10) [.ref (ad 11), .ref (ad 12), zv2 0], aI G (ad 11) 4 (js2 1), aI G (ad 12) 8 (js2 2), oW (ad 13) [.ref (ad 14), .ref (ad 15), zv2 1], aI G (ad 14) 4 (js2 3), aI G (ad 15) 8 (js2 4), aI G (ad 16) 4 (js2 0), aR G (ad 17) 40 rr, oW (ad 18) [.ref (ad 19), .ref (ad 20), .int (nI w.2.length)], aI G (ad 19) 4 fh, aI G (ad 20) 8 gh] ++ rp) H locs → W zp zl ze R zs zm args below meth zc H locs (7 * (jx j E2.length - j)) (1280 * 2 ^ jx j E2.length - 1280 * 2 ^ j) Q (F0 zm 22 ls []) := by
    intro N_22
    induction N_22 with
    | zero => intros; omega
    | succ N_22 ih_22 =>
      intro nd E2 cnt2 md2 ag2 ov2 qa2 fm2 fs2 js2 zv2 hnd hσ hX2 hc2 hs2 hN_22 H locs ls hl hw
      have hS2 := SOK.nodes (B := B) (fr := fr) hS0 hcf.2.2.1 hcf.2.2.2.2.1 hV hn4 hrp.2.1 nd hnd
      rw [hσ] at hS2
      dsimp only [SOK] at hS2
      have hL0 := hS2.2.2.1
      have hE8 := hS2.1.2.2
      have hL1 := nodes_len (ps := ps) (B := B) (n := n) (room := room) (w := w) (fr := fr) (rs := rs) (σ := (E, 0, md, ag, ov)) nd (n - nd)
      rw [hσ, show nd + (n - nd) = n by omega, hst] at hL1
      dsimp only at hL1
      have hJ0 := jx_room (j := j) hL0 hL1
      refine lv_iload_n hx hb d_X_goThrough_22 rfl (lv_at hl 2 rfl) ?_
      refine lv_aload_n hx hb d_X_goThrough_23 rfl (lv_at hl 0 rfl) ?_
      refine g_X_74 hx hb hts hown hK hw 0 rfl rfl d_X_goThrough_24 ?_
      refine r_icmp_ge (tgt := 105) hx hb (by omega) (by omega) d_X_goThrough_27 (by decide) (fun c_27 => ?_) (fun c_27 => ?_)
      · skip
        rw [show nd = n by omega] at hσ
        obtain ⟨rfl, rfl, rfl, rfl, rfl⟩ := five_eq (hst.symm.trans hσ)
        exact r_ret hQ (r_vret (qa2, fm2, fs2, va_up (va_up js2 5 fh) 6 gh, va_up zv2 3 (.int (nI w.2.length))) hx hb hr hlk hw (⟨hX2, hc2, hs2⟩) (by omega) (by omega) d_X_goThrough_105)
      · skip
        refine lv_iconst (v := nI 0) hx hb d_X_goThrough_30 rfl ?_
        refine lv_istore_n (lv' := [(3, .int (nI 0)), (0, .ref (ad 0)), (1, .int (nI fr)), (2, .int (nI nd))]) hx hb d_X_goThrough_31 rfl hl (by decide) rfl (fun ls hl => ?_)
        have Lp32 : ∀ N_32 : Nat, ∀ (ru : Nat) (E2 : List Ent) (cnt2 : Nat) (md2 : Nat) (ag2 : Nat) (ov2 : Nat) (qa2 : Nat → Nat) (fm2 : Nat → Int64) (fs2 : Nat → Nat → Int32) (js2 : Nat → Nat → Int32) (zv2 : Nat → Value), (ru ≤ rs.length) → (rulesA ps B n room w fr rs nd ru (nodesA ps B n room w fr rs nd (E, 0, md, ag, ov)) = (E2, cnt2, md2, ag2, ov2)) → (XR E2 (jx j E2.length) fm2 fs2) → (fs2 5 fr = nI cnt2) → (∀ i, i < E.length → i ≠ fr → fs2 5 i = fs 5 i) → rs.length - ru < N_32 → ∀ (H : Heap) (locs : List Loc) (ls : Array Slot), lv_has ls 4 [(0, .ref (ad 0)), (1, .int (nI fr)), (2, .int (nI nd)), (3, .int (nI ru))] → WW G A zs ([oX (ad 0) [.int (nI n), .int (nI room), .int (nI Sx), .int (nI Kx), .ref (ad 17), .int (nI rs.length), .ref (ad 1), .ref (ad 2), .int (nI ps.length), .ref (qa2 1), .ref (qa2 2), .ref (qa2 3), .ref (qa2 4), .ref (qa2 5), .ref (qa2 6), .int (nI E2.length), .int (nI gn), .ref (qa2 7), .int (boF ov2 E2.length), .int (fuF ov2), .int (nI md2), .int (nI ag2), .ref (ad 18), .ref (ad 10), .ref (ad 13), .ref (ad 16), zv2 2], aZ G (ad 1) 64 fb, aI G (ad 2) 96 fn, aJ G (qa2 1) (64 * 2 ^ (jx j E2.length)) fm2, aI G (qa2 2) (64 * 2 ^ (jx j E2.length)) (fs2 2), aI G (qa2 3) (64 * 2 ^ (jx j E2.length)) (fs2 3), aI G (qa2 4) (64 * 2 ^ (jx j E2.length)) (fs2 4), aI G (qa2 5) (64 * 2 ^ (jx j E2.length)) (fs2 5), aI G (qa2 6) (64 * 2 ^ (jx j E2.length)) (fs2 6), aI G (qa2 7) (2 ^ (8 + (jx j E2.length))) (fs2 7), oW (ad 10) [.ref (ad 11), .ref (ad 12), zv2 0], aI G (ad 11) 4 (js2 1), aI G (ad 12) 8 (js2 2), oW (ad 13) [.ref (ad 14), .ref (ad 15), zv2 1], aI G (ad 14) 4 (js2 3), aI G (ad 15) 8 (js2 4), aI G (ad 16) 4 (js2 0), aR G (ad 17) 40 rr, oW (ad 18) [.ref (ad 19), .ref (ad 20), .int (nI w.2.length)], aI G (ad 19) 4 fh, aI G (ad 20) 8 gh] ++ rp) H locs → W zp zl ze R zs zm args below meth zc H locs (7 * (jx j E2.length - j)) (1280 * 2 ^ jx j E2.length - 1280 * 2 ^ j) Q (F0 zm 32 ls []) := by
          intro N_32
          induction N_32 with
          | zero => intros; omega
          | succ N_32 ih_32 =>
            intro ru E2 cnt2 md2 ag2 ov2 qa2 fm2 fs2 js2 zv2 hru hσ hX2 hc2 hs2 hN_32 H locs ls hl hw
            have hS2 := SOK.rules (B := B) (fr := fr) (SOK.nodes (B := B) (fr := fr) hS0 hcf.2.2.1 hcf.2.2.2.2.1 hV hn4 hrp.2.1 nd (by omega)) hcf.2.2.1 hcf.2.2.2.2.1 hV hn4 c_27 hrp.2.1 ru hru
            rw [hσ] at hS2
            dsimp only [SOK] at hS2
            have hL0 := hS2.2.2.1
            have hE8 := hS2.1.2.2
            have hL1 := rules_len (ps := ps) (B := B) (n := n) (room := room) (w := w) (fr := fr) (rs := rs) (nd := nd) (σ := nodesA ps B n room w fr rs nd (E, 0, md, ag, ov)) ru (rs.length - ru)
            rw [hσ, show ru + (rs.length - ru) = rs.length by omega] at hL1
            have hLn := nodes_len (ps := ps) (B := B) (n := n) (room := room) (w := w) (fr := fr) (rs := rs) (σ := (E, 0, md, ag, ov)) (nd + 1) (n - (nd + 1))
            rw [show nd + 1 + (n - (nd + 1)) = n by omega, hst] at hLn
            replace hL1 := Nat.le_trans hL1 hLn
            dsimp only at hL1
            have hJ0 := jx_room (j := j) hL0 hL1
            refine lv_iload_n hx hb d_X_goThrough_32 rfl (lv_at hl 3 rfl) ?_
            refine lv_aload_n hx hb d_X_goThrough_33 rfl (lv_at hl 0 rfl) ?_
            refine g_X_129 hx hb hts hown hK hw 0 rfl rfl d_X_goThrough_34 ?_
            refine r_icmp_ge (tgt := 99) hx hb (by omega) (by omega) d_X_goThrough_37 (by decide) (fun c_37 => ?_) (fun c_37 => ?_)
            · skip
              refine r_iincN (n := 1) (lv' := [(2, .int (nI (nd + 1))), (0, .ref (ad 0)), (1, .int (nI fr)), (3, .int (nI ru))]) hx hb d_X_goThrough_99 hl (k := 2) rfl (by decide) rfl (fun ls hl => ?_)
              refine lv_goto (tgt := 22) hx hb d_X_goThrough_102 (by decide) ?_
              refine W.widen (k := 7 * (jx j E2.length - j)) (n := 1280 * 2 ^ jx j E2.length - 1280 * 2 ^ j) (by omega) (by omega) ?_
              exact ih_22 (nd + 1) E2 cnt2 md2 ag2 ov2 qa2 fm2 fs2 js2 zv2 (by omega) (by rw [show ru = rs.length by omega] at hσ; exact hσ) hX2 hc2 hs2 (by omega) _ _ _ (lv_sub hl [1, 2, 0] rfl) hw
            · skip
              obtain ⟨ra, ka, wa, fk9, fw9, hr0, hr1, hr2, hr3, hr4, hr5⟩ := hrp.2.2.2 ru c_37
              have hro := rs_at hrp.2.1 c_37
              have hd8 := hV.dg8 (k := nd) (by omega)
              have hro1 := hro.1
              refine lv_aload_n hx hb d_X_goThrough_40 rfl (lv_at hl 0 rfl) ?_
              refine g_X_15 hx hb hts hown hK hw 0 rfl rfl d_X_goThrough_41 ?_
              refine lv_iload_n hx hb d_X_goThrough_44 rfl (lv_at hl 3 rfl) ?_
              refine r_aald hx hb hK hw 17 rfl (by omega) (by omega) hr0 d_X_goThrough_45 ?_
              refine g_X_231 hx hb hts hown hK hw (21 + 3 * ru) (tg rfl hr1) rfl d_X_goThrough_46 ?_
              refine lv_aload_n hx hb d_X_goThrough_49 rfl (lv_at hl 0 rfl) ?_
              refine g_X_55 hx hb hts hown hK hw 0 rfl rfl d_X_goThrough_50 ?_
              refine g_X_180 hx hb hts hown hK hw 18 rfl rfl d_X_goThrough_53 ?_
              refine lv_iload_n hx hb d_X_goThrough_56 rfl (lv_at hl 2 rfl) ?_
              refine r_iald hx hb hK hw 19 rfl (by omega) (by omega) d_X_goThrough_57 ?_
              refine r_eq (show fh nd = nI (dg w nd) from hfh nd (by omega)) ?_
              refine r_icmp_ne (tgt := 93) hx hb (by omega) (by omega) d_X_goThrough_58 (by decide) (fun c_58 => ?_) (fun c_58 => ?_)
              · skip
                refine r_iincN (n := 1) (lv' := [(3, .int (nI (ru + 1))), (0, .ref (ad 0)), (1, .int (nI fr)), (2, .int (nI nd))]) hx hb d_X_goThrough_93 hl (k := 3) rfl (by decide) rfl (fun ls hl => ?_)
                refine lv_goto (tgt := 32) hx hb d_X_goThrough_96 (by decide) ?_
                refine W.widen (k := 7 * (jx j E2.length - j)) (n := 1280 * 2 ^ jx j E2.length - 1280 * 2 ^ j) (by omega) (by omega) ?_
                exact ih_32 (ru + 1) E2 cnt2 md2 ag2 ov2 qa2 fm2 fs2 js2 zv2 (by omega) (by show ruleA _ _ _ _ _ _ _ _ _ _ = _; rw [hσ, ruleA, if_neg c_58]) hX2 hc2 hs2 (by omega) _ _ _ (lv_sub hl [1, 2, 3, 0] rfl) hw
              · skip
                refine lv_aload_n hx hb d_X_goThrough_61 rfl (lv_at hl 0 rfl) ?_
                refine g_X_15 hx hb hts hown hK hw 0 rfl rfl d_X_goThrough_62 ?_
                refine lv_iload_n hx hb d_X_goThrough_65 rfl (lv_at hl 3 rfl) ?_
                refine r_aald hx hb hK hw 17 rfl (by omega) (by omega) hr0 d_X_goThrough_66 ?_
                refine g_X_135 hx hb hts hown hK hw (21 + 3 * ru) (tg rfl hr1) rfl d_X_goThrough_67 ?_
                refine lv_iconst (v := -1) hx hb d_X_goThrough_70 (by decide) ?_
                refine lv_icmp_ne (tgt := 86) hx hb d_X_goThrough_71 (by decide) (fun c_71 => ?_) (fun c_71 => ?_)
                · skip
                  obtain ⟨ev, hev⟩ := evI_s c_71
                  refine lv_aload_n hx hb d_X_goThrough_86 rfl (lv_at hl 0 rfl) ?_
                  refine lv_iload_n hx hb d_X_goThrough_87 rfl (lv_at hl 1 rfl) ?_
                  refine lv_iload_n hx hb d_X_goThrough_88 rfl (lv_at hl 3 rfl) ?_
                  refine lv_iload_n hx hb d_X_goThrough_89 rfl (lv_at hl 2 rfl) ?_
                  obtain ⟨⟨E3, cnt3, md3, ag3, ov3⟩, hst3⟩ : ∃ z : E5, recvA ps B n room w fr ru nd ev (rs.getD ru rD) w.2.length (E2, cnt2, md2, ag2, ov2) = z := ⟨_, rfl⟩
                  have hst5 : ruleA ps B n room w fr ru nd (rs.getD ru rD) (E2, cnt2, md2, ag2, ov2) = (E3, cnt3, md3, ag3, ov3) := by rw [ruleA, if_pos c_58, hev]; exact hst3
                  have hst4 : rulesA ps B n room w fr rs nd (ru + 1) (nodesA ps B n room w fr rs nd (E, 0, md, ag, ov)) = (E3, cnt3, md3, ag3, ov3) := by show ruleA _ _ _ _ _ _ _ _ _ _ = _; rw [hσ]; exact hst5
                  have hL3 := rules_len (ps := ps) (B := B) (n := n) (room := room) (w := w) (fr := fr) (rs := rs) (nd := nd) (σ := nodesA ps B n room w fr rs nd (E, 0, md, ag, ov)) (ru + 1) (rs.length - (ru + 1))
                  rw [show ru + 1 + (rs.length - (ru + 1)) = rs.length by omega, hst4] at hL3
                  replace hL3 := Nat.le_trans hL3 hLn
                  dsimp only at hL3
                  have hL2 := rule_len (ps := ps) (B := B) (n := n) (room := room) (w := w) (fr := fr) (ru := ru) (nd := nd) (R := (rs.getD ru rD)) (σ := (E2, cnt2, md2, ag2, ov2))
                  rw [hst5] at hL2
                  dsimp only at hL2
                  have hJ := jx_room (j := j) hL2 hL3
                  have hJp : 2 ^ jx (jx j E2.length) E3.length = 2 ^ jx j E3.length := by rw [hJ.1]
                  refine xVA_v (rest := []) (As := [.int (nI fr), .int (nI ru), .int (nI nd)]) hx hb hml hown hts hK hA hw k_X_234 (c_X_receive zl G ad qa2 fm2 fs2 js2 zv2 fb fn fh gh rr rp n room Sx Kx gn (jx j E2.length) ps B rs E2 E3 cnt2 md2 ag2 ov2 cnt3 md3 ag3 ov3 fr ru nd ev w hcf hX2 hS2.1 hS2.2.1 hV hfh hgh hrp c_37 (by omega) hc2 c_27 hev hst3) 0 rfl rfl rfl rfl hl.1 (Nat.le_of_ble_eq_true rfl) ⟨(by omega), (by omega)⟩ ⟨(by omega), (by omega)⟩ d_X_goThrough_90 (fun _ u9 H locs hp hw1 => ?_)
                  obtain ⟨qa3, fm3, fs3, js3, zv3⟩ := u9
                  obtain ⟨hX3, hc3, ho3⟩ := hp
                  dsimp only at hX3 hc3 ho3
                  rw [hJ.1] at hX3
                  replace hw : WW G A zs ([oX (ad 0) [.int (nI n), .int (nI room), .int (nI Sx), .int (nI Kx), .ref (ad 17), .int (nI rs.length), .ref (ad 1), .ref (ad 2), .int (nI ps.length), .ref (qa3 1), .ref (qa3 2), .ref (qa3 3), .ref (qa3 4), .ref (qa3 5), .ref (qa3 6), .int (nI E3.length), .int (nI gn), .ref (qa3 7), .int (boF ov3 E3.length), .int (fuF ov3), .int (nI md3), .int (nI ag3), .ref (ad 18), .ref (ad 10), .ref (ad 13), .ref (ad 16), zv3 2], aZ G (ad 1) 64 fb, aI G (ad 2) 96 fn, aJ G (qa3 1) (64 * 2 ^ (jx j E3.length)) fm3, aI G (qa3 2) (64 * 2 ^ (jx j E3.length)) (fs3 2), aI G (qa3 3) (64 * 2 ^ (jx j E3.length)) (fs3 3), aI G (qa3 4) (64 * 2 ^ (jx j E3.length)) (fs3 4), aI G (qa3 5) (64 * 2 ^ (jx j E3.length)) (fs3 5), aI G (qa3 6) (64 * 2 ^ (jx j E3.length)) (fs3 6), aI G (qa3 7) (2 ^ (8 + (jx j E3.length))) (fs3 7), oW (ad 10) [.ref (ad 11), .ref (ad 12), zv3 0], aI G (ad 11) 4 (js3 1), aI G (ad 12) 8 (js3 2), oW (ad 13) [.ref (ad 14), .ref (ad 15), zv3 1], aI G (ad 14) 4 (js3 3), aI G (ad 15) 8 (js3 4), aI G (ad 16) 4 (js3 0), aR G (ad 17) 40 rr, oW (ad 18) [.ref (ad 19), .ref (ad 20), .int (nI w.2.length)], aI G (ad 19) 4 fh, aI G (ad 20) 8 gh] ++ rp) H locs := by rw [← hJ.1]; exact hw1
                  refine r_iincN (n := 1) (lv' := [(3, .int (nI (ru + 1))), (0, .ref (ad 0)), (1, .int (nI fr)), (2, .int (nI nd))]) hx hb d_X_goThrough_93 hl (k := 3) rfl (by decide) rfl (fun ls hl => ?_)
                  refine lv_goto (tgt := 32) hx hb d_X_goThrough_96 (by decide) ?_
                  refine W.widen (k := 7 * (jx j E3.length - j)) (n := 1280 * 2 ^ jx j E3.length - 1280 * 2 ^ j) (by omega) (by omega) ?_
                  exact ih_32 (ru + 1) E3 cnt3 md3 ag3 ov3 qa3 fm3 fs3 js3 zv3 (by omega) hst4 hX3 hc3 (fun i hi hne => by rw [ho3 i (by omega) hne]; exact hs2 i hi hne) (by omega) _ _ _ (lv_sub hl [1, 2, 3, 0] rfl) hw
                · skip
                  have hev : (rs.getD ru rD).2.1 = none := evI_n c_71 hro rfl
                  refine lv_aload_n hx hb d_X_goThrough_74 rfl (lv_at hl 0 rfl) ?_
                  refine lv_iload_n hx hb d_X_goThrough_75 rfl (lv_at hl 1 rfl) ?_
                  refine lv_iload_n hx hb d_X_goThrough_76 rfl (lv_at hl 3 rfl) ?_
                  refine lv_iload_n hx hb d_X_goThrough_77 rfl (lv_at hl 2 rfl) ?_
                  refine lv_iconst (v := -1) hx hb d_X_goThrough_78 (by decide) ?_
                  refine lv_iconst (v := -1) hx hb d_X_goThrough_79 (by decide) ?_
                  obtain ⟨⟨E3, cnt3, md3, ag3, ov3⟩, hst3⟩ : ∃ z : E5, stepA ps B n room w fr ru nd (rs.getD ru rD) none (E2, cnt2, md2, ag2, ov2) = z := ⟨_, rfl⟩
                  have hst5 : ruleA ps B n room w fr ru nd (rs.getD ru rD) (E2, cnt2, md2, ag2, ov2) = (E3, cnt3, md3, ag3, ov3) := by rw [ruleA, if_pos c_58, hev]; exact hst3
                  have hst4 : rulesA ps B n room w fr rs nd (ru + 1) (nodesA ps B n room w fr rs nd (E, 0, md, ag, ov)) = (E3, cnt3, md3, ag3, ov3) := by show ruleA _ _ _ _ _ _ _ _ _ _ = _; rw [hσ]; exact hst5
                  have hL3 := rules_len (ps := ps) (B := B) (n := n) (room := room) (w := w) (fr := fr) (rs := rs) (nd := nd) (σ := nodesA ps B n room w fr rs nd (E, 0, md, ag, ov)) (ru + 1) (rs.length - (ru + 1))
                  rw [show ru + 1 + (rs.length - (ru + 1)) = rs.length by omega, hst4] at hL3
                  replace hL3 := Nat.le_trans hL3 hLn
                  dsimp only at hL3
                  have hL2 := rule_len (ps := ps) (B := B) (n := n) (room := room) (w := w) (fr := fr) (ru := ru) (nd := nd) (R := (rs.getD ru rD)) (σ := (E2, cnt2, md2, ag2, ov2))
                  rw [hst5] at hL2
                  dsimp only at hL2
                  have hJ := jx_room (j := j) hL2 hL3
                  have hJp : 2 ^ jx (jx j E2.length) E3.length = 2 ^ jx j E3.length := by rw [hJ.1]
                  refine xVA_v (rest := []) (As := [.int (nI fr), .int (nI ru), .int (nI nd), .int (-1), .int (-1)]) hx hb hml hown hts hK hA hw k_X_223 (c_X_step zl G ad qa2 fm2 fs2 js2 zv2 fb fn fh gh rr rp n room Sx Kx gn (jx j E2.length) ps B rs E2 E3 cnt2 md2 ag2 ov2 cnt3 md3 ag3 ov3 fr ru nd w none (-1) (-1) hcf hX2 hS2.1 hS2.2.1 hV hfh hgh hrp c_37 (by omega) hc2 c_27 (Or.inl ⟨rfl, rfl⟩) rfl hst3) 0 rfl rfl rfl rfl hl.1 (Nat.le_of_ble_eq_true rfl) ⟨(by omega), (by omega)⟩ ⟨(by omega), (by omega)⟩ d_X_goThrough_80 (fun _ u9 H locs hp hw1 => ?_)
                  obtain ⟨qa3, fm3, fs3, js3, zv3⟩ := u9
                  obtain ⟨hX3, hc3, ho3⟩ := hp
                  dsimp only at hX3 hc3 ho3
                  rw [hJ.1] at hX3
                  replace hw : WW G A zs ([oX (ad 0) [.int (nI n), .int (nI room), .int (nI Sx), .int (nI Kx), .ref (ad 17), .int (nI rs.length), .ref (ad 1), .ref (ad 2), .int (nI ps.length), .ref (qa3 1), .ref (qa3 2), .ref (qa3 3), .ref (qa3 4), .ref (qa3 5), .ref (qa3 6), .int (nI E3.length), .int (nI gn), .ref (qa3 7), .int (boF ov3 E3.length), .int (fuF ov3), .int (nI md3), .int (nI ag3), .ref (ad 18), .ref (ad 10), .ref (ad 13), .ref (ad 16), zv3 2], aZ G (ad 1) 64 fb, aI G (ad 2) 96 fn, aJ G (qa3 1) (64 * 2 ^ (jx j E3.length)) fm3, aI G (qa3 2) (64 * 2 ^ (jx j E3.length)) (fs3 2), aI G (qa3 3) (64 * 2 ^ (jx j E3.length)) (fs3 3), aI G (qa3 4) (64 * 2 ^ (jx j E3.length)) (fs3 4), aI G (qa3 5) (64 * 2 ^ (jx j E3.length)) (fs3 5), aI G (qa3 6) (64 * 2 ^ (jx j E3.length)) (fs3 6), aI G (qa3 7) (2 ^ (8 + (jx j E3.length))) (fs3 7), oW (ad 10) [.ref (ad 11), .ref (ad 12), zv3 0], aI G (ad 11) 4 (js3 1), aI G (ad 12) 8 (js3 2), oW (ad 13) [.ref (ad 14), .ref (ad 15), zv3 1], aI G (ad 14) 4 (js3 3), aI G (ad 15) 8 (js3 4), aI G (ad 16) 4 (js3 0), aR G (ad 17) 40 rr, oW (ad 18) [.ref (ad 19), .ref (ad 20), .int (nI w.2.length)], aI G (ad 19) 4 fh, aI G (ad 20) 8 gh] ++ rp) H locs := by rw [← hJ.1]; exact hw1
                  refine lv_goto (tgt := 93) hx hb d_X_goThrough_83 (by decide) ?_
                  refine r_iincN (n := 1) (lv' := [(3, .int (nI (ru + 1))), (0, .ref (ad 0)), (1, .int (nI fr)), (2, .int (nI nd))]) hx hb d_X_goThrough_93 hl (k := 3) rfl (by decide) rfl (fun ls hl => ?_)
                  refine lv_goto (tgt := 32) hx hb d_X_goThrough_96 (by decide) ?_
                  refine W.widen (k := 7 * (jx j E3.length - j)) (n := 1280 * 2 ^ jx j E3.length - 1280 * 2 ^ j) (by omega) (by omega) ?_
                  exact ih_32 (ru + 1) E3 cnt3 md3 ag3 ov3 qa3 fm3 fs3 js3 zv3 (by omega) hst4 hX3 hc3 (fun i hi hne => by rw [ho3 i (by omega) hne]; exact hs2 i hi hne) (by omega) _ _ _ (lv_sub hl [1, 2, 3, 0] rfl) hw
        refine W.widen (k := 7 * (jx j E2.length - j)) (n := 1280 * 2 ^ jx j E2.length - 1280 * 2 ^ j) (by omega) (by omega) ?_
        exact Lp32 _ 0 E2 cnt2 md2 ag2 ov2 qa2 fm2 fs2 js2 zv2 (by omega) hσ hX2 hc2 hs2 (Nat.lt_succ_self _) _ _ _ (lv_sub hl [1, 2, 3, 0] rfl) hw
  rw [← hjj] at hw
  refine W.widen (k := 7 * (jx j E.length - j)) (n := 1280 * 2 ^ jx j E.length - 1280 * 2 ^ j) (by omega) (by omega) ?_
  exact Lp22 _ 0 E 0 md ag ov qa fm fs9 js zv (by omega) rfl (by rw [hjj, efs9]; exact hX) (by rw [efs9]; exact step_cnt0) (fun i hi hne => by rw [efs9]; exact step_oth hne) (Nat.lt_succ_self _) _ _ _ (lv_sub hl [1, 2, 0] rfl) hw
