set_option maxHeartbeats 4000000 in
set_option maxRecDepth 100000 in
theorem c_M_goThrough (zl : Launch) (G : GG) (am : Nat → Nat) (fa : Nat → Nat → Int32) (zv : Nat → Value) (th bw : Int32) (n room Sx Kx : Nat) (ps pm : List (List Nat)) (B : Nat → Bool) (rs : List Rl) (E E1 : List Ent) (S S1 : List Nat) (md ag c1 md1 ag1 ov1 : Nat) (w : Wh) (hMC : MC n ps pm B fa) (hE : EOK n room E) (hSE : S.length ≤ E.length) (hMR : MR E S fa) (hrl : MRl rs fa) (hgl : S.length < E.length) (hwE : (E.getD S.length eD).1 = w) (hst : nodesA ps B n room w S.length rs n (E, 0, md, ag, 0) = (E1, c1, md1, ag1, ov1)) (hS1 : (if ov1 = 0 then S ++ [c1] else S) = S1) : Ctr (S := (Nat → Nat → Int32) × Int32 × (Nat → Value)) vV zl y_M_goThrough b_M_goThrough 6 (Option.none : Option Jvm.ClassFile.FieldType) 5 0 0 G [.ref (am 0)] ([oM (am 0) [.int th, .int (nI n), .int (nI room), .int (nI Sx), .int (nI Kx), .int (nI rs.length), .ref (am 1), .ref (am 2), .ref (am 3), .ref (am 4), .ref (am 5), .ref (am 6), .ref (am 7), .ref (am 8), .int (nI pm.length), .int (nI E.length), .int (nI S.length), .int (nI md), .int (nI ag), .int (nI (deadN S S.length)), .int (nI 0), .int bw, .ref (am 9), .ref (am 10), .ref (am 11), .ref (am 12), .ref (am 13), .ref (am 14), .ref (am 15), .ref (am 16), .ref (am 17), .ref (am 18), zv 0, zv 1], aI G (am 1) 40 (fa 1), aI G (am 2) 40 (fa 2), aI G (am 3) 40 (fa 3), aI G (am 4) 40 (fa 4), aI G (am 5) 160 (fa 5), aI G (am 6) 160 (fa 6), aZ G (am 7) 64 (fa 7), aI G (am 8) 96 (fa 8), aI G (am 9) 98304 (fa 9), aI G (am 10) 8192 (fa 10), aI G (am 11) 8192 (fa 11), aI G (am 12) 8192 (fa 12), aI G (am 13) 8192 (fa 13), aI G (am 14) 8192 (fa 14), aI G (am 15) 8192 (fa 15), aI G (am 16) 12 (fa 16), aI G (am 17) 12 (fa 17), aI G (am 18) 12 (fa 18)]) (fun _ u => MR E1 S1 u.1 ∧ (∀ i, i < 9 → u.1 i = fa i) ∧ (ov1 = 1 → u.2.1 = nI (E1.length - 1))) (fun u => [oM (am 0) [.int th, .int (nI n), .int (nI room), .int (nI Sx), .int (nI Kx), .int (nI rs.length), .ref (am 1), .ref (am 2), .ref (am 3), .ref (am 4), .ref (am 5), .ref (am 6), .ref (am 7), .ref (am 8), .int (nI pm.length), .int (nI E1.length), .int (nI S1.length), .int (nI md1), .int (nI ag1), .int (nI (deadN S1 S1.length)), .int (anF ov1), .int u.2.1, .ref (am 9), .ref (am 10), .ref (am 11), .ref (am 12), .ref (am 13), .ref (am 14), .ref (am 15), .ref (am 16), .ref (am 17), .ref (am 18), u.2.2 0, u.2.2 1], aI G (am 1) 40 (u.1 1), aI G (am 2) 40 (u.1 2), aI G (am 3) 40 (u.1 3), aI G (am 4) 40 (u.1 4), aI G (am 5) 160 (u.1 5), aI G (am 6) 160 (u.1 6), aZ G (am 7) 64 (u.1 7), aI G (am 8) 96 (u.1 8), aI G (am 9) 98304 (u.1 9), aI G (am 10) 8192 (u.1 10), aI G (am 11) 8192 (u.1 11), aI G (am 12) 8192 (u.1 12), aI G (am 13) 8192 (u.1 13), aI G (am 14) 8192 (u.1 14), aI G (am 15) 8192 (u.1 15), aI G (am 16) 12 (u.1 16), aI G (am 17) 12 (u.1 17), aI G (am 18) 12 (u.1 18)]) := by
  refine Ctr.start (by decide) (Nat.le_of_ble_eq_true rfl) ?_
  intro zp ze zs zm below meth zc A ls C0 hin hK hA hl hw
  obtain ⟨hx, hb, hr, hlk, hml, hown, hts⟩ := C0
  obtain ⟨R, hRR⟩ : ∃ R : Room, R = rmL 5 0 0 := ⟨_, rfl⟩
  have hRf : R.frames = 5 := by rw [hRR]
  have hRl : R.locals = 64 * 5 := by rw [hRR]
  have hRc : R.cells = 0 := by rw [hRR]
  have hRs : R.slots = 0 := by rw [hRR]
  rw [← hRR]; clear hRR
  generalize hQ : MQ below _ _ zs _ _ A = Q
  generalize hAr : List.toArray _ = args at hts hQ ⊢
  replace hl : lv_has ls 6 [(0, .ref (am 0))] := hl
  obtain ⟨H, eH⟩ : ∃ H : Heap, H = zs.heap := ⟨_, rfl⟩
  obtain ⟨locs, eL⟩ : ∃ l0 : List Loc, l0 = [] := ⟨_, rfl⟩
  rw [← eH, ← eL] at hw ⊢; clear eH eL
  obtain ⟨hn4, hs, hB, h00, hPm, h00m, h24, hPmm, hnum, hfe⟩ := id hMC
  have hE8 := hE.2.2
  have hrll := hrl.1
  have hV : Vl n w := by rw [← hwE]; exact hE.1 _ (getD_memE hgl)
  have hS0 : SOK n room E (E, 0, md, ag, 0) := ⟨hE, Nat.zero_le _, Nat.le_refl _, fun _ _ => rfl⟩
  refine lv_aload_n hx hb d_M_goThrough_0 rfl (lv_at hl 0 rfl) ?_
  refine g_M_85 hx hb hts hown hK hw 0 rfl rfl d_M_goThrough_1 ?_
  refine lv_istore_n (lv' := [(1, .int (nI S.length)), (0, .ref (am 0))]) hx hb d_M_goThrough_4 rfl hl (by decide) rfl (fun ls hl => ?_)
  refine lv_iconst (v := nI 0) hx hb d_M_goThrough_5 rfl ?_
  refine lv_istore_n (lv' := [(2, .int (nI 0)), (1, .int (nI S.length)), (0, .ref (am 0))]) hx hb d_M_goThrough_6 rfl hl (by decide) rfl (fun ls hl => ?_)
  refine lv_iconst (v := nI 0) hx hb d_M_goThrough_7 rfl ?_
  refine lv_istore_n (lv' := [(3, .int (nI 0)), (2, .int (nI 0)), (1, .int (nI S.length)), (0, .ref (am 0))]) hx hb d_M_goThrough_8 rfl hl (by decide) rfl (fun ls hl => ?_)
  have Lp9 : ∀ N_9 : Nat, ∀ (nd : Nat) (c2 : Nat) (E2 : List Ent) (md2 : Nat) (ag2 : Nat) (fa2 : Nat → Nat → Int32) (bw2 : Int32) (zv2 : Nat → Value), (nd ≤ n) → (nodesA ps B n room w S.length rs nd (E, 0, md, ag, 0) = (E2, c2, md2, ag2, 0)) → (MR E2 S fa2) → (∀ i, i < 9 → fa2 i = fa i) → n - nd < N_9 → ∀ (H : Heap) (locs : List Loc) (ls : Array Slot), lv_has ls 6 [(0, .ref (am 0)), (1, .int (nI S.length)), (2, .int (nI c2)), (3, .int (nI nd))] → WW G A zs ([oM (am 0) [.int th, .int (nI n), .int (nI room), .int (nI Sx), .int (nI Kx), .int (nI rs.length), .ref (am 1), .ref (am 2), .ref (am 3), .ref (am 4), .ref (am 5), .ref (am 6), .ref (am 7), .ref (am 8), .int (nI pm.length), .int (nI E2.length), .int (nI S.length), .int (nI md2), .int (nI ag2), .int (nI (deadN S S.length)), .int (nI 0), .int bw2, .ref (am 9), .ref (am 10), .ref (am 11), .ref (am 12), .ref (am 13), .ref (am 14), .ref (am 15), .ref (am 16), .ref (am 17), .ref (am 18), zv2 0, zv2 1], aI G (am 1) 40 (fa2 1), aI G (am 2) 40 (fa2 2), aI G (am 3) 40 (fa2 3), aI G (am 4) 40 (fa2 4), aI G (am 5) 160 (fa2 5), aI G (am 6) 160 (fa2 6), aZ G (am 7) 64 (fa2 7), aI G (am 8) 96 (fa2 8), aI G (am 9) 98304 (fa2 9), aI G (am 10) 8192 (fa2 10), aI G (am 11) 8192 (fa2 11), aI G (am 12) 8192 (fa2 12), aI G (am 13) 8192 (fa2 13), aI G (am 14) 8192 (fa2 14), aI G (am 15) 8192 (fa2 15), aI G (am 16) 12 (fa2 16), aI G (am 17) 12 (fa2 17), aI G (am 18) 12 (fa2 18)]) H locs → W zp zl ze R zs zm args below meth zc H locs 0 0 Q (F0 zm 9 ls []) := by
    intro N_9
    induction N_9 with
    | zero => intros; omega
    | succ N_9 ih_9 =>
      intro nd c2 E2 md2 ag2 fa2 bw2 zv2 hnd hσ hMR2 hk2 hN_9 H locs ls hl hw
      have hS2 := SOK.nodes (B := B) (fr := S.length) hS0 h00 hPm hV hn4 hrl.2.1 nd hnd
      rw [hσ] at hS2
      dsimp only [SOK] at hS2
      have hL0 := hS2.2.2.1
      have hE82 := hS2.1.2.2
      refine lv_iload_n hx hb d_M_goThrough_9 rfl (lv_at hl 3 rfl) ?_
      refine lv_aload_n hx hb d_M_goThrough_10 rfl (lv_at hl 0 rfl) ?_
      refine g_M_70 hx hb hts hown hK hw 0 rfl rfl d_M_goThrough_11 ?_
      refine r_icmp_ge (tgt := 86) hx hb (by omega) (by omega) d_M_goThrough_14 (by decide) (fun c_14 => ?_) (fun c_14 => ?_)
      · skip
        rw [show nd = n by omega] at hσ
        obtain ⟨rfl, rfl, rfl, rfl, rfl⟩ := five_eq (hσ.symm.trans hst)
        rw [if_pos rfl] at hS1
        subst hS1
        have hct := nodes_ct (ps := ps) (B := B) (n := n) (room := room) (w := w) (fr := S.length) (rs := rs) (σ := (E, 0, md, ag, 0)) hV.2.2.2.1 hrll n
        rw [hst] at hct
        dsimp only at hct
        refine lv_aload_n hx hb d_M_goThrough_86 rfl (lv_at hl 0 rfl) ?_
        refine g_M_55 hx hb hts hown hK hw 0 rfl rfl d_M_goThrough_87 ?_
        refine lv_iload_n hx hb d_M_goThrough_90 rfl (lv_at hl 1 rfl) ?_
        refine lv_iload_n hx hb d_M_goThrough_91 rfl (lv_at hl 2 rfl) ?_
        refine r_iast hx hb hK hw 14 rfl (by omega) (by omega) d_M_goThrough_92 (fun H locs hw1 => ?_)
        replace hw : WW G A zs ([oM (am 0) [.int th, .int (nI n), .int (nI room), .int (nI Sx), .int (nI Kx), .int (nI rs.length), .ref (am 1), .ref (am 2), .ref (am 3), .ref (am 4), .ref (am 5), .ref (am 6), .ref (am 7), .ref (am 8), .int (nI pm.length), .int (nI E2.length), .int (nI S.length), .int (nI md2), .int (nI ag2), .int (nI (deadN S S.length)), .int (nI 0), .int bw2, .ref (am 9), .ref (am 10), .ref (am 11), .ref (am 12), .ref (am 13), .ref (am 14), .ref (am 15), .ref (am 16), .ref (am 17), .ref (am 18), zv2 0, zv2 1], aI G (am 1) 40 (fa2 1), aI G (am 2) 40 (fa2 2), aI G (am 3) 40 (fa2 3), aI G (am 4) 40 (fa2 4), aI G (am 5) 160 (fa2 5), aI G (am 6) 160 (fa2 6), aZ G (am 7) 64 (fa2 7), aI G (am 8) 96 (fa2 8), aI G (am 9) 98304 (fa2 9), aI G (am 10) 8192 (fa2 10), aI G (am 11) 8192 (fa2 11), aI G (am 12) 8192 (fa2 12), aI G (am 13) 8192 (fa2 13), aI G (am 14) 8192 (upd (fa2 14) S.length (nI c2)), aI G (am 15) 8192 (fa2 15), aI G (am 16) 12 (fa2 16), aI G (am 17) 12 (fa2 17), aI G (am 18) 12 (fa2 18)]) H locs := hw1
        refine lv_aload_n hx hb d_M_goThrough_93 rfl (lv_at hl 0 rfl) ?_
        refine lv_dup hx hb d_M_goThrough_94 rfl ?_
        refine g_M_94 hx hb hts hown hK hw 0 rfl rfl d_M_goThrough_95 ?_
        refine lv_iload_n hx hb d_M_goThrough_98 rfl (lv_at hl 2 rfl) ?_
        refine r_if_ne (tgt := 106) hx hb (by omega) d_M_goThrough_99 (by decide) (fun c_99 => ?_) (fun c_99 => ?_)
        · skip
          refine lv_iconst (v := nI 0) hx hb d_M_goThrough_106 rfl ?_
          refine r_iaddN hx hb d_M_goThrough_107 ?_
          refine r_eq (show nI ((deadN S S.length) + 0) = nI (deadN (S ++ [c2]) (S ++ [c2]).length) from congrArg nI (dead_s1 c_99)) ?_
          refine p_M_94 hx hb hts hown hK hw 0 rfl (Nat.le_of_ble_eq_true rfl) d_M_goThrough_108 (fun H locs hw1 => ?_)
          replace hw : WW G A zs ([oM (am 0) [.int th, .int (nI n), .int (nI room), .int (nI Sx), .int (nI Kx), .int (nI rs.length), .ref (am 1), .ref (am 2), .ref (am 3), .ref (am 4), .ref (am 5), .ref (am 6), .ref (am 7), .ref (am 8), .int (nI pm.length), .int (nI E2.length), .int (nI S.length), .int (nI md2), .int (nI ag2), .int (nI (deadN (S ++ [c2]) (S ++ [c2]).length)), .int (nI 0), .int bw2, .ref (am 9), .ref (am 10), .ref (am 11), .ref (am 12), .ref (am 13), .ref (am 14), .ref (am 15), .ref (am 16), .ref (am 17), .ref (am 18), zv2 0, zv2 1], aI G (am 1) 40 (fa2 1), aI G (am 2) 40 (fa2 2), aI G (am 3) 40 (fa2 3), aI G (am 4) 40 (fa2 4), aI G (am 5) 160 (fa2 5), aI G (am 6) 160 (fa2 6), aZ G (am 7) 64 (fa2 7), aI G (am 8) 96 (fa2 8), aI G (am 9) 98304 (fa2 9), aI G (am 10) 8192 (fa2 10), aI G (am 11) 8192 (fa2 11), aI G (am 12) 8192 (fa2 12), aI G (am 13) 8192 (fa2 13), aI G (am 14) 8192 (upd (fa2 14) S.length (nI c2)), aI G (am 15) 8192 (fa2 15), aI G (am 16) 12 (fa2 16), aI G (am 17) 12 (fa2 17), aI G (am 18) 12 (fa2 18)]) H locs := hw1
          refine lv_aload_n hx hb d_M_goThrough_111 rfl (lv_at hl 0 rfl) ?_
          refine lv_dup hx hb d_M_goThrough_112 rfl ?_
          refine g_M_85 hx hb hts hown hK hw 0 rfl rfl d_M_goThrough_113 ?_
          refine lv_iconst (v := nI 1) hx hb d_M_goThrough_116 rfl ?_
          refine r_iaddN hx hb d_M_goThrough_117 ?_
          refine r_eq (show nI (S.length + 1) = nI ((S ++ [c2]).length) from congrArg nI (by rw [List.length_append]; rfl)) ?_
          refine p_M_85 hx hb hts hown hK hw 0 rfl (Nat.le_of_ble_eq_true rfl) d_M_goThrough_118 (fun H locs hw1 => ?_)
          replace hw : WW G A zs ([oM (am 0) [.int th, .int (nI n), .int (nI room), .int (nI Sx), .int (nI Kx), .int (nI rs.length), .ref (am 1), .ref (am 2), .ref (am 3), .ref (am 4), .ref (am 5), .ref (am 6), .ref (am 7), .ref (am 8), .int (nI pm.length), .int (nI E2.length), .int (nI ((S ++ [c2]).length)), .int (nI md2), .int (nI ag2), .int (nI (deadN (S ++ [c2]) (S ++ [c2]).length)), .int (nI 0), .int bw2, .ref (am 9), .ref (am 10), .ref (am 11), .ref (am 12), .ref (am 13), .ref (am 14), .ref (am 15), .ref (am 16), .ref (am 17), .ref (am 18), zv2 0, zv2 1], aI G (am 1) 40 (fa2 1), aI G (am 2) 40 (fa2 2), aI G (am 3) 40 (fa2 3), aI G (am 4) 40 (fa2 4), aI G (am 5) 160 (fa2 5), aI G (am 6) 160 (fa2 6), aZ G (am 7) 64 (fa2 7), aI G (am 8) 96 (fa2 8), aI G (am 9) 98304 (fa2 9), aI G (am 10) 8192 (fa2 10), aI G (am 11) 8192 (fa2 11), aI G (am 12) 8192 (fa2 12), aI G (am 13) 8192 (fa2 13), aI G (am 14) 8192 (upd (fa2 14) S.length (nI c2)), aI G (am 15) 8192 (fa2 15), aI G (am 16) 12 (fa2 16), aI G (am 17) 12 (fa2 17), aI G (am 18) 12 (fa2 18)]) H locs := hw1
          exact r_ret hQ (r_vret (va_up fa2 14 (upd (fa2 14) S.length (nI c2)), bw2, zv2) hx hb hr hlk hw (⟨hMR2.done (by omega), kpt hk2 kp14, fun z => absurd z (by decide)⟩) (by omega) (by omega) d_M_goThrough_121)
        · skip
          refine lv_iconst (v := nI 1) hx hb d_M_goThrough_102 rfl ?_
          refine lv_goto (tgt := 107) hx hb d_M_goThrough_103 (by decide) ?_
          refine r_iaddN hx hb d_M_goThrough_107 ?_
          refine r_eq (show nI ((deadN S S.length) + 1) = nI (deadN (S ++ [c2]) (S ++ [c2]).length) from congrArg nI (dead_s0 c_99)) ?_
          refine p_M_94 hx hb hts hown hK hw 0 rfl (Nat.le_of_ble_eq_true rfl) d_M_goThrough_108 (fun H locs hw1 => ?_)
          replace hw : WW G A zs ([oM (am 0) [.int th, .int (nI n), .int (nI room), .int (nI Sx), .int (nI Kx), .int (nI rs.length), .ref (am 1), .ref (am 2), .ref (am 3), .ref (am 4), .ref (am 5), .ref (am 6), .ref (am 7), .ref (am 8), .int (nI pm.length), .int (nI E2.length), .int (nI S.length), .int (nI md2), .int (nI ag2), .int (nI (deadN (S ++ [c2]) (S ++ [c2]).length)), .int (nI 0), .int bw2, .ref (am 9), .ref (am 10), .ref (am 11), .ref (am 12), .ref (am 13), .ref (am 14), .ref (am 15), .ref (am 16), .ref (am 17), .ref (am 18), zv2 0, zv2 1], aI G (am 1) 40 (fa2 1), aI G (am 2) 40 (fa2 2), aI G (am 3) 40 (fa2 3), aI G (am 4) 40 (fa2 4), aI G (am 5) 160 (fa2 5), aI G (am 6) 160 (fa2 6), aZ G (am 7) 64 (fa2 7), aI G (am 8) 96 (fa2 8), aI G (am 9) 98304 (fa2 9), aI G (am 10) 8192 (fa2 10), aI G (am 11) 8192 (fa2 11), aI G (am 12) 8192 (fa2 12), aI G (am 13) 8192 (fa2 13), aI G (am 14) 8192 (upd (fa2 14) S.length (nI c2)), aI G (am 15) 8192 (fa2 15), aI G (am 16) 12 (fa2 16), aI G (am 17) 12 (fa2 17), aI G (am 18) 12 (fa2 18)]) H locs := hw1
          refine lv_aload_n hx hb d_M_goThrough_111 rfl (lv_at hl 0 rfl) ?_
          refine lv_dup hx hb d_M_goThrough_112 rfl ?_
          refine g_M_85 hx hb hts hown hK hw 0 rfl rfl d_M_goThrough_113 ?_
          refine lv_iconst (v := nI 1) hx hb d_M_goThrough_116 rfl ?_
          refine r_iaddN hx hb d_M_goThrough_117 ?_
          refine r_eq (show nI (S.length + 1) = nI ((S ++ [c2]).length) from congrArg nI (by rw [List.length_append]; rfl)) ?_
          refine p_M_85 hx hb hts hown hK hw 0 rfl (Nat.le_of_ble_eq_true rfl) d_M_goThrough_118 (fun H locs hw1 => ?_)
          replace hw : WW G A zs ([oM (am 0) [.int th, .int (nI n), .int (nI room), .int (nI Sx), .int (nI Kx), .int (nI rs.length), .ref (am 1), .ref (am 2), .ref (am 3), .ref (am 4), .ref (am 5), .ref (am 6), .ref (am 7), .ref (am 8), .int (nI pm.length), .int (nI E2.length), .int (nI ((S ++ [c2]).length)), .int (nI md2), .int (nI ag2), .int (nI (deadN (S ++ [c2]) (S ++ [c2]).length)), .int (nI 0), .int bw2, .ref (am 9), .ref (am 10), .ref (am 11), .ref (am 12), .ref (am 13), .ref (am 14), .ref (am 15), .ref (am 16), .ref (am 17), .ref (am 18), zv2 0, zv2 1], aI G (am 1) 40 (fa2 1), aI G (am 2) 40 (fa2 2), aI G (am 3) 40 (fa2 3), aI G (am 4) 40 (fa2 4), aI G (am 5) 160 (fa2 5), aI G (am 6) 160 (fa2 6), aZ G (am 7) 64 (fa2 7), aI G (am 8) 96 (fa2 8), aI G (am 9) 98304 (fa2 9), aI G (am 10) 8192 (fa2 10), aI G (am 11) 8192 (fa2 11), aI G (am 12) 8192 (fa2 12), aI G (am 13) 8192 (fa2 13), aI G (am 14) 8192 (upd (fa2 14) S.length (nI c2)), aI G (am 15) 8192 (fa2 15), aI G (am 16) 12 (fa2 16), aI G (am 17) 12 (fa2 17), aI G (am 18) 12 (fa2 18)]) H locs := hw1
          exact r_ret hQ (r_vret (va_up fa2 14 (upd (fa2 14) S.length (nI c2)), bw2, zv2) hx hb hr hlk hw (⟨hMR2.done (by omega), kpt hk2 kp14, fun z => absurd z (by decide)⟩) (by omega) (by omega) d_M_goThrough_121)
      · skip
        refine lv_iconst (v := nI 0) hx hb d_M_goThrough_17 rfl ?_
        refine lv_istore (lv' := [(4, .int (nI 0)), (0, .ref (am 0)), (1, .int (nI S.length)), (2, .int (nI c2)), (3, .int (nI nd))]) hx hb d_M_goThrough_18 hl (by decide) rfl (fun ls hl => ?_)
        have Lp20 : ∀ N_20 : Nat, ∀ (ru : Nat) (c2 : Nat) (E2 : List Ent) (md2 : Nat) (ag2 : Nat) (fa2 : Nat → Nat → Int32) (bw2 : Int32) (zv2 : Nat → Value), (ru ≤ rs.length) → (rulesA ps B n room w S.length rs nd ru (nodesA ps B n room w S.length rs nd (E, 0, md, ag, 0)) = (E2, c2, md2, ag2, 0)) → (MR E2 S fa2) → (∀ i, i < 9 → fa2 i = fa i) → rs.length - ru < N_20 → ∀ (H : Heap) (locs : List Loc) (ls : Array Slot), lv_has ls 6 [(0, .ref (am 0)), (1, .int (nI S.length)), (2, .int (nI c2)), (3, .int (nI nd)), (4, .int (nI ru))] → WW G A zs ([oM (am 0) [.int th, .int (nI n), .int (nI room), .int (nI Sx), .int (nI Kx), .int (nI rs.length), .ref (am 1), .ref (am 2), .ref (am 3), .ref (am 4), .ref (am 5), .ref (am 6), .ref (am 7), .ref (am 8), .int (nI pm.length), .int (nI E2.length), .int (nI S.length), .int (nI md2), .int (nI ag2), .int (nI (deadN S S.length)), .int (nI 0), .int bw2, .ref (am 9), .ref (am 10), .ref (am 11), .ref (am 12), .ref (am 13), .ref (am 14), .ref (am 15), .ref (am 16), .ref (am 17), .ref (am 18), zv2 0, zv2 1], aI G (am 1) 40 (fa2 1), aI G (am 2) 40 (fa2 2), aI G (am 3) 40 (fa2 3), aI G (am 4) 40 (fa2 4), aI G (am 5) 160 (fa2 5), aI G (am 6) 160 (fa2 6), aZ G (am 7) 64 (fa2 7), aI G (am 8) 96 (fa2 8), aI G (am 9) 98304 (fa2 9), aI G (am 10) 8192 (fa2 10), aI G (am 11) 8192 (fa2 11), aI G (am 12) 8192 (fa2 12), aI G (am 13) 8192 (fa2 13), aI G (am 14) 8192 (fa2 14), aI G (am 15) 8192 (fa2 15), aI G (am 16) 12 (fa2 16), aI G (am 17) 12 (fa2 17), aI G (am 18) 12 (fa2 18)]) H locs → W zp zl ze R zs zm args below meth zc H locs 0 0 Q (F0 zm 20 ls []) := by
          intro N_20
          induction N_20 with
          | zero => intros; omega
          | succ N_20 ih_20 =>
            intro ru c2 E2 md2 ag2 fa2 bw2 zv2 hru hσ hMR2 hk2 hN_20 H locs ls hl hw
            have hS2 := SOK.rules (B := B) (fr := S.length) (SOK.nodes (B := B) (fr := S.length) hS0 h00 hPm hV hn4 hrl.2.1 nd (by omega)) h00 hPm hV hn4 c_14 hrl.2.1 ru hru
            rw [hσ] at hS2
            dsimp only [SOK] at hS2
            have hL0 := hS2.2.2.1
            have hE82 := hS2.1.2.2
            have hMC2 := hMC.kp hk2
            have hrl2 := hrl.kp hk2
            have hrw2 : Row (fa2 9) (12 * S.length) w := by have hz := (hMR2.1 S.length (by omega)).1; rw [hS2.2.2.2 S.length hgl, hwE] at hz; exact hz
            refine lv_iload hx hb d_M_goThrough_20 (lv_at hl 4 rfl) ?_
            refine lv_aload_n hx hb d_M_goThrough_22 rfl (lv_at hl 0 rfl) ?_
            refine g_M_117 hx hb hts hown hK hw 0 rfl rfl d_M_goThrough_23 ?_
            refine r_icmp_ge (tgt := 80) hx hb (by omega) (by omega) d_M_goThrough_26 (by decide) (fun c_26 => ?_) (fun c_26 => ?_)
            · skip
              refine r_iincN (n := 1) (lv' := [(3, .int (nI (nd + 1))), (0, .ref (am 0)), (1, .int (nI S.length)), (2, .int (nI c2)), (4, .int (nI ru))]) hx hb d_M_goThrough_80 hl (k := 3) rfl (by decide) rfl (fun ls hl => ?_)
              refine lv_goto (tgt := 9) hx hb d_M_goThrough_83 (by decide) ?_
              exact ih_9 (nd + 1) c2 E2 md2 ag2 fa2 bw2 zv2 (by omega) (by rw [show ru = rs.length by omega] at hσ; exact hσ) hMR2 hk2 (by omega) _ _ _ (lv_sub hl [1, 2, 3, 0] rfl) hw
            · skip
              have hd8 := hV.dg8 (k := nd) (by omega)
              have hro1 := (rs_at hrl.2.1 c_26).1
              have hrl3 := hrl2.2.2.2 ru c_26
              refine lv_aload_n hx hb d_M_goThrough_29 rfl (lv_at hl 0 rfl) ?_
              refine g_M_40 hx hb hts hown hK hw 0 rfl rfl d_M_goThrough_30 ?_
              refine lv_bipush (v := nI 12) hx hb d_M_goThrough_33 (by decide) ?_
              refine lv_iload_n hx hb d_M_goThrough_35 rfl (lv_at hl 1 rfl) ?_
              refine r_imulN hx hb d_M_goThrough_36 ?_
              refine lv_iload_n hx hb d_M_goThrough_37 rfl (lv_at hl 3 rfl) ?_
              refine r_iaddN hx hb d_M_goThrough_38 ?_
              refine r_iald hx hb hK hw 9 rfl (by omega) (by omega) d_M_goThrough_39 ?_
              refine r_eq (show (fa2 9) ((12 * S.length) + nd) = nI (dg w nd) from hrw2.st (i := nd) (by omega)) ?_
              refine lv_aload_n hx hb d_M_goThrough_40 rfl (lv_at hl 0 rfl) ?_
              refine g_M_13 hx hb hts hown hK hw 0 rfl rfl d_M_goThrough_41 ?_
              refine lv_iload hx hb d_M_goThrough_44 (lv_at hl 4 rfl) ?_
              refine r_iald hx hb hK hw 1 rfl (by omega) (by omega) d_M_goThrough_46 ?_
              refine r_eq (show (fa2 1) ru = nI ((rs.getD ru rD).1) from hrl3.1) ?_
              refine r_icmp_eq (tgt := 53) hx hb (by omega) (by omega) d_M_goThrough_47 (by decide) (fun c_47 => ?_) (fun c_47 => ?_)
              · skip
                refine lv_aload_n hx hb d_M_goThrough_53 rfl (lv_at hl 0 rfl) ?_
                refine lv_iload_n hx hb d_M_goThrough_54 rfl (lv_at hl 1 rfl) ?_
                refine lv_iload_n hx hb d_M_goThrough_55 rfl (lv_at hl 3 rfl) ?_
                refine lv_iload hx hb d_M_goThrough_56 (lv_at hl 4 rfl) ?_
                obtain ⟨⟨E3, c3, md3, ag3, ov3⟩, hst3⟩ : ∃ z : E5, ruleA ps B n room w S.length ru nd (rs.getD ru rD) (E2, c2, md2, ag2, 0) = z := ⟨_, rfl⟩
                refine xVA_i (rest := []) (As := [.int (nI S.length), .int (nI nd), .int (nI ru)]) hx hb hml hown hts hK hA hw k_M_163 (c_M_allSteps zl G am fa2 zv2 th bw2 n room Sx Kx ps pm B rs E2 E3 S c2 md2 ag2 c3 md3 ag3 ov3 S.length nd ru w hMC2 hS2.1 (by omega) hMR2 hrl2 hV (by omega) (by rw [hS2.2.2.2 S.length hgl, hwE]) c_26 c_14 c_47.symm hst3) 0 rfl rfl rfl rfl hl.1 (Nat.le_of_ble_eq_true rfl) ⟨(by omega), (by omega)⟩ ⟨(by omega), (by omega)⟩ d_M_goThrough_58 (fun r u5 H locs hp hw1 => ?_)
                obtain ⟨fa5, bw5, zv5⟩ := u5
                obtain ⟨hr5, hc5, hm5, hk5, hb5⟩ := hp
                refine W.cs (cells' := 0) (slots' := 0) rfl rfl ?_
                replace hw : WW G A zs ([oM (am 0) [.int th, .int (nI n), .int (nI room), .int (nI Sx), .int (nI Kx), .int (nI rs.length), .ref (am 1), .ref (am 2), .ref (am 3), .ref (am 4), .ref (am 5), .ref (am 6), .ref (am 7), .ref (am 8), .int (nI pm.length), .int (nI E3.length), .int (nI S.length), .int (nI md3), .int (nI ag3), .int (nI (deadN S S.length)), .int (anF ov3), .int bw5, .ref (am 9), .ref (am 10), .ref (am 11), .ref (am 12), .ref (am 13), .ref (am 14), .ref (am 15), .ref (am 16), .ref (am 17), .ref (am 18), zv5 0, zv5 1], aI G (am 1) 40 (fa5 1), aI G (am 2) 40 (fa5 2), aI G (am 3) 40 (fa5 3), aI G (am 4) 40 (fa5 4), aI G (am 5) 160 (fa5 5), aI G (am 6) 160 (fa5 6), aZ G (am 7) 64 (fa5 7), aI G (am 8) 96 (fa5 8), aI G (am 9) 98304 (fa5 9), aI G (am 10) 8192 (fa5 10), aI G (am 11) 8192 (fa5 11), aI G (am 12) 8192 (fa5 12), aI G (am 13) 8192 (fa5 13), aI G (am 14) 8192 (fa5 14), aI G (am 15) 8192 (fa5 15), aI G (am 16) 12 (fa5 16), aI G (am 17) 12 (fa5 17), aI G (am 18) 12 (fa5 18)]) H locs := hw1
                refine lv_istore (lv' := [(5, .int r), (0, .ref (am 0)), (1, .int (nI S.length)), (2, .int (nI c2)), (3, .int (nI nd)), (4, .int (nI ru))]) hx hb d_M_goThrough_61 hl (by decide) rfl (fun ls hl => ?_)
                refine lv_iload hx hb d_M_goThrough_63 (lv_at hl 0 rfl) ?_
                refine lv_if_ge (tgt := 69) hx hb d_M_goThrough_65 (by decide) (fun c_65 => ?_) (fun c_65 => ?_)
                · skip
                  obtain ⟨rfl, hr6⟩ := asR_pos hr5 c_65
                  refine lv_iload_n hx hb d_M_goThrough_69 rfl (lv_at hl 3 rfl) ?_
                  refine lv_iload hx hb d_M_goThrough_70 (lv_at hl 0 rfl) ?_
                  refine r_eq (show r = nI (c3 - c2) from hr6) ?_
                  refine r_iaddN hx hb d_M_goThrough_72 ?_
                  refine r_eq (show nI (c2 + (c3 - c2)) = nI c3 from congrArg nI (by omega)) ?_
                  refine lv_istore_n (lv' := [(2, .int (nI c3)), (5, .int r), (0, .ref (am 0)), (1, .int (nI S.length)), (3, .int (nI nd)), (4, .int (nI ru))]) hx hb d_M_goThrough_73 rfl hl (by decide) rfl (fun ls hl => ?_)
                  refine r_iincN (n := 1) (lv' := [(4, .int (nI (ru + 1))), (2, .int (nI c3)), (5, .int r), (0, .ref (am 0)), (1, .int (nI S.length)), (3, .int (nI nd))]) hx hb d_M_goThrough_74 hl (k := 5) rfl (by decide) rfl (fun ls hl => ?_)
                  refine lv_goto (tgt := 20) hx hb d_M_goThrough_77 (by decide) ?_
-- KIND MISMATCH field ('N', '0') ('I', 'anF ov3')
                  exact ih_20 (ru + 1) c3 E3 md3 ag3 fa5 bw5 zv5 (by omega) (by show ruleA _ _ _ _ _ _ _ _ _ _ = _; rw [hσ]; exact hst3) hm5 (kpt hk2 hk5) (by omega) _ _ _ (lv_sub hl [3, 4, 1, 5, 0] rfl) hw
                · skip
                  have hov3 := asR_neg hr5 hc5.2 c_65
                  have hσ3 : rulesA ps B n room w S.length rs nd (ru + 1) (nodesA ps B n room w S.length rs nd (E, 0, md, ag, 0)) = (E3, c3, md3, ag3, ov3) := by show ruleA _ _ _ _ _ _ _ _ _ _ = _; rw [hσ]; exact hst3
                  have hσ4 := rulesO (ps := ps) (B := B) (n := n) (room := room) (w := w) (fr := S.length) (rs := rs) (nd := nd) (σ := nodesA ps B n room w S.length rs nd (E, 0, md, ag, 0)) (k := ru + 1) (by rw [hσ3]; exact hov3) (rs.length - (ru + 1))
                  rw [show ru + 1 + (rs.length - (ru + 1)) = rs.length by omega, hσ3] at hσ4
                  have hσ5 := nodesO (ps := ps) (B := B) (n := n) (room := room) (w := w) (fr := S.length) (rs := rs) (σ := (E, 0, md, ag, 0)) (k := nd + 1) (by show ¬ (rulesA _ _ _ _ _ _ _ _ _ _).2.2.2.2 = 0; rw [hσ4]; exact hov3) (n - (nd + 1))
                  rw [show nd + 1 + (n - (nd + 1)) = n by omega, hst] at hσ5
                  replace hσ5 := hσ5.trans hσ4
                  obtain ⟨rfl, rfl, rfl, rfl, rfl⟩ := five_eq hσ5
                  rw [if_neg hov3] at hS1
                  subst hS1
                  exact r_ret hQ (r_vret (fa5, bw5, zv5) hx hb hr hlk hw (⟨hm5, kpt hk2 hk5, hb5⟩) (by omega) (by omega) d_M_goThrough_68)
              · skip
                refine lv_goto (tgt := 74) hx hb d_M_goThrough_50 (by decide) ?_
                refine r_iincN (n := 1) (lv' := [(4, .int (nI (ru + 1))), (0, .ref (am 0)), (1, .int (nI S.length)), (2, .int (nI c2)), (3, .int (nI nd))]) hx hb d_M_goThrough_74 hl (k := 4) rfl (by decide) rfl (fun ls hl => ?_)
                refine lv_goto (tgt := 20) hx hb d_M_goThrough_77 (by decide) ?_
                exact ih_20 (ru + 1) c2 E2 md2 ag2 fa2 bw2 zv2 (by omega) (by show ruleA _ _ _ _ _ _ _ _ _ _ = _; rw [hσ, ruleA, if_neg (fun z => c_47 z.symm)]) hMR2 hk2 (by omega) _ _ _ (lv_sub hl [1, 2, 3, 4, 0] rfl) hw
        exact Lp20 _ 0 c2 E2 md2 ag2 fa2 bw2 zv2 (by omega) hσ hMR2 hk2 (Nat.lt_succ_self _) _ _ _ (lv_sub hl [1, 2, 3, 4, 0] rfl) hw
  exact Lp9 _ 0 0 E md ag fa bw zv (by omega) rfl hMR (fun _ _ => rfl) (Nat.lt_succ_self _) _ _ _ (lv_sub hl [3, 2, 1, 0] rfl) hw
set_option maxHeartbeats 4000000 in
set_option maxRecDepth 100000 in
theorem c_M_run (zl : Launch) (G : GG) (am : Nat → Nat) (fa : Nat → Nat → Int32) (zv : Nat → Value) (th bw : Int32) (n room Sx Kx : Nat) (ps pm : List (List Nat)) (B : Nat → Bool) (rs : List Rl) (E Ef : List Ent) (S Sf : List Nat) (md ag ov mdf agf ovf : Nat) (hMC : MC n ps pm B fa) (hSI : SI n room (E, S, md, ag, ov)) (hMR : MR E S fa) (hrl : MRl rs fa) (hroom : 0 < room) (hz : E.length = 0 → md = 0 ∧ ag = 0) (hbw : ov = 1 → bw = nI (E.length - 1)) (hst : rnA ps B n room rs 8193 (bgS ps B n room (E, S, md, ag, ov)) = (Ef, Sf, mdf, agf, ovf)) : Ctr (S := (Nat → Nat → Int32) × Int32 × (Nat → Value)) vI zl y_M_run b_M_run 1 (Option.some Jvm.ClassFile.FieldType.int) 6 0 0 G [.ref (am 0)] ([oM (am 0) [.int th, .int (nI n), .int (nI room), .int (nI Sx), .int (nI Kx), .int (nI rs.length), .ref (am 1), .ref (am 2), .ref (am 3), .ref (am 4), .ref (am 5), .ref (am 6), .ref (am 7), .ref (am 8), .int (nI pm.length), .int (nI E.length), .int (nI S.length), .int (nI md), .int (nI ag), .int (nI (deadN S S.length)), .int (anF ov), .int bw, .ref (am 9), .ref (am 10), .ref (am 11), .ref (am 12), .ref (am 13), .ref (am 14), .ref (am 15), .ref (am 16), .ref (am 17), .ref (am 18), zv 0, zv 1], aI G (am 1) 40 (fa 1), aI G (am 2) 40 (fa 2), aI G (am 3) 40 (fa 3), aI G (am 4) 40 (fa 4), aI G (am 5) 160 (fa 5), aI G (am 6) 160 (fa 6), aZ G (am 7) 64 (fa 7), aI G (am 8) 96 (fa 8), aI G (am 9) 98304 (fa 9), aI G (am 10) 8192 (fa 10), aI G (am 11) 8192 (fa 11), aI G (am 12) 8192 (fa 12), aI G (am 13) 8192 (fa 13), aI G (am 14) 8192 (fa 14), aI G (am 15) 8192 (fa 15), aI G (am 16) 12 (fa 16), aI G (am 17) 12 (fa 17), aI G (am 18) 12 (fa 18)]) (fun r u => r = resR ovf Ef.length ∧ MR Ef Sf u.1 ∧ (∀ i, i < 9 → u.1 i = fa i) ∧ (ovf = 1 → u.2.1 = nI (Ef.length - 1))) (fun u => [oM (am 0) [.int (nI 0), .int (nI n), .int (nI room), .int (nI Sx), .int (nI Kx), .int (nI rs.length), .ref (am 1), .ref (am 2), .ref (am 3), .ref (am 4), .ref (am 5), .ref (am 6), .ref (am 7), .ref (am 8), .int (nI pm.length), .int (nI Ef.length), .int (nI Sf.length), .int (nI mdf), .int (nI agf), .int (nI (deadN Sf Sf.length)), .int (anF ovf), .int u.2.1, .ref (am 9), .ref (am 10), .ref (am 11), .ref (am 12), .ref (am 13), .ref (am 14), .ref (am 15), .ref (am 16), .ref (am 17), .ref (am 18), u.2.2 0, u.2.2 1], aI G (am 1) 40 (u.1 1), aI G (am 2) 40 (u.1 2), aI G (am 3) 40 (u.1 3), aI G (am 4) 40 (u.1 4), aI G (am 5) 160 (u.1 5), aI G (am 6) 160 (u.1 6), aZ G (am 7) 64 (u.1 7), aI G (am 8) 96 (u.1 8), aI G (am 9) 98304 (u.1 9), aI G (am 10) 8192 (u.1 10), aI G (am 11) 8192 (u.1 11), aI G (am 12) 8192 (u.1 12), aI G (am 13) 8192 (u.1 13), aI G (am 14) 8192 (u.1 14), aI G (am 15) 8192 (u.1 15), aI G (am 16) 12 (u.1 16), aI G (am 17) 12 (u.1 17), aI G (am 18) 12 (u.1 18)]) := by
  refine Ctr.start (by decide) (Nat.le_of_ble_eq_true rfl) ?_
  intro zp ze zs zm below meth zc A ls C0 hin hK hA hl hw
  obtain ⟨hx, hb, hr, hlk, hml, hown, hts⟩ := C0
  obtain ⟨R, hRR⟩ : ∃ R : Room, R = rmL 6 0 0 := ⟨_, rfl⟩
  have hRf : R.frames = 6 := by rw [hRR]
  have hRl : R.locals = 64 * 6 := by rw [hRR]
  have hRc : R.cells = 0 := by rw [hRR]
  have hRs : R.slots = 0 := by rw [hRR]
  rw [← hRR]; clear hRR
  generalize hQ : MQ below _ _ zs _ _ A = Q
  generalize hAr : List.toArray _ = args at hts hQ ⊢
  replace hl : lv_has ls 1 [(0, .ref (am 0))] := hl
  obtain ⟨H, eH⟩ : ∃ H : Heap, H = zs.heap := ⟨_, rfl⟩
  obtain ⟨locs, eL⟩ : ∃ l0 : List Loc, l0 = [] := ⟨_, rfl⟩
  rw [← eH, ← eL] at hw ⊢; clear eH eL
  obtain ⟨hn4, hs, hB, h00, hPm, h00m, h24, hPmm, hnum, hfe⟩ := id hMC
  have hrll := hrl.1
  refine lv_aload_n hx hb d_M_run_0 rfl (lv_at hl 0 rfl) ?_
  refine lv_iconst (v := nI 0) hx hb d_M_run_1 rfl ?_
  refine p_M_79 hx hb hts hown hK hw 0 rfl (Nat.le_of_ble_eq_true rfl) d_M_run_2 (fun H locs hw1 => ?_)
  replace hw : WW G A zs ([oM (am 0) [.int (nI 0), .int (nI n), .int (nI room), .int (nI Sx), .int (nI Kx), .int (nI rs.length), .ref (am 1), .ref (am 2), .ref (am 3), .ref (am 4), .ref (am 5), .ref (am 6), .ref (am 7), .ref (am 8), .int (nI pm.length), .int (nI E.length), .int (nI S.length), .int (nI md), .int (nI ag), .int (nI (deadN S S.length)), .int (anF ov), .int bw, .ref (am 9), .ref (am 10), .ref (am 11), .ref (am 12), .ref (am 13), .ref (am 14), .ref (am 15), .ref (am 16), .ref (am 17), .ref (am 18), zv 0, zv 1], aI G (am 1) 40 (fa 1), aI G (am 2) 40 (fa 2), aI G (am 3) 40 (fa 3), aI G (am 4) 40 (fa 4), aI G (am 5) 160 (fa 5), aI G (am 6) 160 (fa 6), aZ G (am 7) 64 (fa 7), aI G (am 8) 96 (fa 8), aI G (am 9) 98304 (fa 9), aI G (am 10) 8192 (fa 10), aI G (am 11) 8192 (fa 11), aI G (am 12) 8192 (fa 12), aI G (am 13) 8192 (fa 13), aI G (am 14) 8192 (fa 14), aI G (am 15) 8192 (fa 15), aI G (am 16) 12 (fa 16), aI G (am 17) 12 (fa 17), aI G (am 18) 12 (fa 18)]) H locs := hw1
  refine lv_aload_n hx hb d_M_run_5 rfl (lv_at hl 0 rfl) ?_
  obtain ⟨⟨E1, ag1, ov1⟩, hst1⟩ : ∃ z : List Ent × Nat × Nat, bgA ps B n room E ag ov = z := ⟨_, rfl⟩
  have hst2 : bgS ps B n room (E, S, md, ag, ov) = (E1, S, md, ag1, ov1) := by unfold bgS; rw [hst1]
  have hb := bgS_ok (B := B) hSI h00 hPm hn4 hroom
  rw [hst2] at hb hst
  obtain ⟨hSI1, hL1, hpos1⟩ := hb
  dsimp only at hL1 hpos1
  refine xVA_v (rest := []) (As := []) hx hb hml hown hts hK hA hw k_M_167 (c_M_begin zl G am fa zv (nI 0) bw n room Sx Kx ps pm B rs E E1 S md ag ag1 ov ov1 hMC hSI.1 hSI.2.2.1 hMR hroom hz hbw hst1) 0 rfl rfl rfl rfl hl.1 (Nat.le_of_ble_eq_true rfl) ⟨(by omega), (by omega)⟩ ⟨(by omega), (by omega)⟩ d_M_run_6 (fun _ u9 H locs hp hw1 => ?_)
  obtain ⟨fa1, bw1, zv1⟩ := u9
  obtain ⟨hm1, hk1, hb1⟩ := hp
  refine W.cs (cells' := 0) (slots' := 0) rfl rfl ?_
  replace hw : WW G A zs ([oM (am 0) [.int (nI 0), .int (nI n), .int (nI room), .int (nI Sx), .int (nI Kx), .int (nI rs.length), .ref (am 1), .ref (am 2), .ref (am 3), .ref (am 4), .ref (am 5), .ref (am 6), .ref (am 7), .ref (am 8), .int (nI pm.length), .int (nI E1.length), .int (nI S.length), .int (nI md), .int (nI ag1), .int (nI (deadN S S.length)), .int (anF ov1), .int bw1, .ref (am 9), .ref (am 10), .ref (am 11), .ref (am 12), .ref (am 13), .ref (am 14), .ref (am 15), .ref (am 16), .ref (am 17), .ref (am 18), zv1 0, zv1 1], aI G (am 1) 40 (fa1 1), aI G (am 2) 40 (fa1 2), aI G (am 3) 40 (fa1 3), aI G (am 4) 40 (fa1 4), aI G (am 5) 160 (fa1 5), aI G (am 6) 160 (fa1 6), aZ G (am 7) 64 (fa1 7), aI G (am 8) 96 (fa1 8), aI G (am 9) 98304 (fa1 9), aI G (am 10) 8192 (fa1 10), aI G (am 11) 8192 (fa1 11), aI G (am 12) 8192 (fa1 12), aI G (am 13) 8192 (fa1 13), aI G (am 14) 8192 (fa1 14), aI G (am 15) 8192 (fa1 15), aI G (am 16) 12 (fa1 16), aI G (am 17) 12 (fa1 17), aI G (am 18) 12 (fa1 18)]) H locs := hw1
  have Lp9 : ∀ N_9 : Nat, ∀ (f : Nat) (E2 : List Ent) (S2 : List Nat) (md2 : Nat) (ag2 : Nat) (ov2 : Nat) (fa2 : Nat → Nat → Int32) (bw2 : Int32) (zv2 : Nat → Value), (rnA ps B n room rs f (E2, S2, md2, ag2, ov2) = (Ef, Sf, mdf, agf, ovf)) → (SI n room (E2, S2, md2, ag2, ov2)) → (MR E2 S2 fa2) → (∀ i, i < 9 → fa2 i = fa i) → (ov2 = 1 → bw2 = nI (E2.length - 1)) → (ov2 = 0 → room < S2.length + f) → f < N_9 → ∀ (H : Heap) (locs : List Loc) (ls : Array Slot), lv_has ls 1 [(0, .ref (am 0))] → WW G A zs ([oM (am 0) [.int (nI 0), .int (nI n), .int (nI room), .int (nI Sx), .int (nI Kx), .int (nI rs.length), .ref (am 1), .ref (am 2), .ref (am 3), .ref (am 4), .ref (am 5), .ref (am 6), .ref (am 7), .ref (am 8), .int (nI pm.length), .int (nI E2.length), .int (nI S2.length), .int (nI md2), .int (nI ag2), .int (nI (deadN S2 S2.length)), .int (anF ov2), .int bw2, .ref (am 9), .ref (am 10), .ref (am 11), .ref (am 12), .ref (am 13), .ref (am 14), .ref (am 15), .ref (am 16), .ref (am 17), .ref (am 18), zv2 0, zv2 1], aI G (am 1) 40 (fa2 1), aI G (am 2) 40 (fa2 2), aI G (am 3) 40 (fa2 3), aI G (am 4) 40 (fa2 4), aI G (am 5) 160 (fa2 5), aI G (am 6) 160 (fa2 6), aZ G (am 7) 64 (fa2 7), aI G (am 8) 96 (fa2 8), aI G (am 9) 98304 (fa2 9), aI G (am 10) 8192 (fa2 10), aI G (am 11) 8192 (fa2 11), aI G (am 12) 8192 (fa2 12), aI G (am 13) 8192 (fa2 13), aI G (am 14) 8192 (fa2 14), aI G (am 15) 8192 (fa2 15), aI G (am 16) 12 (fa2 16), aI G (am 17) 12 (fa2 17), aI G (am 18) 12 (fa2 18)]) H locs → W zp zl ze R zs zm args below meth zc H locs 0 0 Q (F0 zm 9 ls []) := by
    intro N_9
    induction N_9 with
    | zero => intros; omega
    | succ N_9 ih_9 =>
      intro f E2 S2 md2 ag2 ov2 fa2 bw2 zv2 hσ hSI2 hMR2 hk2 hbw2 hf hN_9 H locs ls hl hw
      have hSl := hSI2.2.2.1
      have hE8 := hSI2.1.2.2
      have ho22 := hSI2.2.1
      dsimp only at hSl hE8 ho22
      refine lv_aload_n hx hb d_M_run_9 rfl (lv_at hl 0 rfl) ?_
      refine g_M_97 hx hb hts hown hK hw 0 rfl rfl d_M_run_10 ?_
      refine lv_if_ne (tgt := 34) hx hb d_M_run_13 (by decide) (fun c_13 => ?_) (fun c_13 => ?_)
      · skip
        have hstop : ¬ (ov2 = 0 ∧ S2.length < E2.length) := fun z => c_13 ((anF_0 ho22).mpr z.1)
        rw [rnA_stop (σ := (E2, S2, md2, ag2, ov2)) hstop f] at hσ
        obtain ⟨rfl, rfl, rfl, rfl, rfl⟩ := five_eq hσ.symm
        refine lv_aload_n hx hb d_M_run_34 rfl (lv_at hl 0 rfl) ?_
        refine g_M_97 hx hb hts hown hK hw 0 rfl rfl d_M_run_35 ?_
        refine lv_if_ge (tgt := 48) hx hb d_M_run_38 (by decide) (fun c_38 => ?_) (fun c_38 => ?_)
        · skip
          refine lv_aload_n hx hb d_M_run_48 rfl (lv_at hl 0 rfl) ?_
          refine g_M_82 hx hb hts hown hK hw 0 rfl rfl d_M_run_49 ?_
          exact r_ret hQ (r_iret (fa2, bw2, zv2) hx hb hr hlk hw (⟨an_r0 c_38, hMR2, hk2, hbw2⟩) (by omega) (by omega) d_M_run_52)
        · skip
          refine lv_aload_n hx hb d_M_run_41 rfl (lv_at hl 0 rfl) ?_
          refine g_M_97 hx hb hts hown hK hw 0 rfl rfl d_M_run_42 ?_
          refine lv_goto (tgt := 52) hx hb d_M_run_45 (by decide) ?_
          exact r_ret hQ (r_iret (fa2, bw2, zv2) hx hb hr hlk hw (⟨an_r1 c_38, hMR2, hk2, hbw2⟩) (by omega) (by omega) d_M_run_52)
      · skip
        have hov2 : ov2 = 0 := (anF_0 ho22).mp c_13
        refine lv_aload_n hx hb d_M_run_16 rfl (lv_at hl 0 rfl) ?_
        refine g_M_85 hx hb hts hown hK hw 0 rfl rfl d_M_run_17 ?_
        refine lv_aload_n hx hb d_M_run_20 rfl (lv_at hl 0 rfl) ?_
        refine g_M_82 hx hb hts hown hK hw 0 rfl rfl d_M_run_21 ?_
        refine r_icmp_ge (tgt := 34) hx hb (by omega) (by omega) d_M_run_24 (by decide) (fun c_24 => ?_) (fun c_24 => ?_)
        · skip
          have hstop : ¬ (ov2 = 0 ∧ S2.length < E2.length) := fun z => by omega
          rw [rnA_stop (σ := (E2, S2, md2, ag2, ov2)) hstop f] at hσ
          obtain ⟨rfl, rfl, rfl, rfl, rfl⟩ := five_eq hσ.symm
          refine lv_aload_n hx hb d_M_run_34 rfl (lv_at hl 0 rfl) ?_
          refine g_M_97 hx hb hts hown hK hw 0 rfl rfl d_M_run_35 ?_
          refine lv_if_ge (tgt := 48) hx hb d_M_run_38 (by decide) (fun c_38 => ?_) (fun c_38 => ?_)
          · skip
            refine lv_aload_n hx hb d_M_run_48 rfl (lv_at hl 0 rfl) ?_
            refine g_M_82 hx hb hts hown hK hw 0 rfl rfl d_M_run_49 ?_
            exact r_ret hQ (r_iret (fa2, bw2, zv2) hx hb hr hlk hw (⟨an_r0 c_38, hMR2, hk2, hbw2⟩) (by omega) (by omega) d_M_run_52)
          · skip
            refine lv_aload_n hx hb d_M_run_41 rfl (lv_at hl 0 rfl) ?_
            refine g_M_97 hx hb hts hown hK hw 0 rfl rfl d_M_run_42 ?_
            refine lv_goto (tgt := 52) hx hb d_M_run_45 (by decide) ?_
            exact r_ret hQ (r_iret (fa2, bw2, zv2) hx hb hr hlk hw (⟨an_r1 c_38, hMR2, hk2, hbw2⟩) (by omega) (by omega) d_M_run_52)
        · skip
          have hgl : S2.length < E2.length := c_24
          subst hov2
          replace hw : WW G A zs ([oM (am 0) [.int (nI 0), .int (nI n), .int (nI room), .int (nI Sx), .int (nI Kx), .int (nI rs.length), .ref (am 1), .ref (am 2), .ref (am 3), .ref (am 4), .ref (am 5), .ref (am 6), .ref (am 7), .ref (am 8), .int (nI pm.length), .int (nI E2.length), .int (nI S2.length), .int (nI md2), .int (nI ag2), .int (nI (deadN S2 S2.length)), .int (nI 0), .int bw2, .ref (am 9), .ref (am 10), .ref (am 11), .ref (am 12), .ref (am 13), .ref (am 14), .ref (am 15), .ref (am 16), .ref (am 17), .ref (am 18), zv2 0, zv2 1], aI G (am 1) 40 (fa2 1), aI G (am 2) 40 (fa2 2), aI G (am 3) 40 (fa2 3), aI G (am 4) 40 (fa2 4), aI G (am 5) 160 (fa2 5), aI G (am 6) 160 (fa2 6), aZ G (am 7) 64 (fa2 7), aI G (am 8) 96 (fa2 8), aI G (am 9) 98304 (fa2 9), aI G (am 10) 8192 (fa2 10), aI G (am 11) 8192 (fa2 11), aI G (am 12) 8192 (fa2 12), aI G (am 13) 8192 (fa2 13), aI G (am 14) 8192 (fa2 14), aI G (am 15) 8192 (fa2 15), aI G (am 16) 12 (fa2 16), aI G (am 17) 12 (fa2 17), aI G (am 18) 12 (fa2 18)]) H locs := hw
          refine lv_aload_n hx hb d_M_run_27 rfl (lv_at hl 0 rfl) ?_
          obtain ⟨f1, rfl⟩ : ∃ f1, f = f1 + 1 := ⟨f - 1, by have := hf rfl; omega⟩
          rw [rnA_go (σ := (E2, S2, md2, ag2, 0)) ⟨rfl, hgl⟩] at hσ
          obtain ⟨⟨E3, c3, md3, ag3, ov3⟩, hst3⟩ : ∃ z : E5, nodesA ps B n room (E2.getD S2.length eD).1 S2.length rs n (E2, 0, md2, ag2, 0) = z := ⟨_, rfl⟩
          obtain ⟨S3, hS3⟩ : ∃ z, (if ov3 = 0 then S2 ++ [c3] else S2) = z := ⟨_, rfl⟩
          have hst4 : goS ps B n room rs (E2, S2, md2, ag2, 0) = (E3, S3, md3, ag3, ov3) := by unfold goS goN; rw [hst3, ← hS3]; rfl
          have hok := goS_ok (B := B) (rs := rs) hSI2 h00 hPm hn4 hrl.2.1 hgl
          rw [hst4] at hok hσ
          refine xVA_v (rest := []) (As := []) hx hb hml hown hts hK hA hw k_M_170 (c_M_goThrough zl G am fa2 zv2 (nI 0) bw2 n room Sx Kx ps pm B rs E2 E3 S2 S3 md2 ag2 c3 md3 ag3 ov3 (E2.getD S2.length eD).1 (hMC.kp hk2) hSI2.1 hSI2.2.2.1 hMR2 (hrl.kp hk2) hgl rfl hst3 hS3) 0 rfl rfl rfl rfl hl.1 (Nat.le_of_ble_eq_true rfl) ⟨(by omega), (by omega)⟩ ⟨(by omega), (by omega)⟩ d_M_run_28 (fun _ u9 H locs hp hw1 => ?_)
          obtain ⟨fa3, bw3, zv3⟩ := u9
          obtain ⟨hm3, hk3, hb3⟩ := hp
          refine W.cs (cells' := 0) (slots' := 0) rfl rfl ?_
          replace hw : WW G A zs ([oM (am 0) [.int (nI 0), .int (nI n), .int (nI room), .int (nI Sx), .int (nI Kx), .int (nI rs.length), .ref (am 1), .ref (am 2), .ref (am 3), .ref (am 4), .ref (am 5), .ref (am 6), .ref (am 7), .ref (am 8), .int (nI pm.length), .int (nI E3.length), .int (nI S3.length), .int (nI md3), .int (nI ag3), .int (nI (deadN S3 S3.length)), .int (anF ov3), .int bw3, .ref (am 9), .ref (am 10), .ref (am 11), .ref (am 12), .ref (am 13), .ref (am 14), .ref (am 15), .ref (am 16), .ref (am 17), .ref (am 18), zv3 0, zv3 1], aI G (am 1) 40 (fa3 1), aI G (am 2) 40 (fa3 2), aI G (am 3) 40 (fa3 3), aI G (am 4) 40 (fa3 4), aI G (am 5) 160 (fa3 5), aI G (am 6) 160 (fa3 6), aZ G (am 7) 64 (fa3 7), aI G (am 8) 96 (fa3 8), aI G (am 9) 98304 (fa3 9), aI G (am 10) 8192 (fa3 10), aI G (am 11) 8192 (fa3 11), aI G (am 12) 8192 (fa3 12), aI G (am 13) 8192 (fa3 13), aI G (am 14) 8192 (fa3 14), aI G (am 15) 8192 (fa3 15), aI G (am 16) 12 (fa3 16), aI G (am 17) 12 (fa3 17), aI G (am 18) 12 (fa3 18)]) H locs := hw1
          refine lv_goto (tgt := 9) hx hb d_M_run_31 (by decide) ?_
          exact ih_9 f1 E3 S3 md3 ag3 ov3 fa3 bw3 zv3 hσ hok.1 hm3 (kpt hk2 hk3) hb3 (fun z => by rw [← hS3, if_pos z, List.length_append]; have := hf rfl; simp only [List.length_singleton]; omega) (by omega) _ _ _ (lv_sub hl [0] rfl) hw
  exact Lp9 _ 8193 E1 S md ag1 ov1 fa1 bw1 zv1 hst hSI1 hm1 hk1 hb1 (fun _ => by have := hSI1.1.2.2.2; omega) (Nat.lt_succ_self _) _ _ _ (lv_sub hl [0] rfl) hw
set_option maxHeartbeats 4000000 in
set_option maxRecDepth 100000 in
theorem c_M_go (zl : Launch) (G : GG) (am : Nat → Nat) (fa : Nat → Nat → Int32) (zv : Nat → Value) (th bw : Int32) (n room Sx Kx : Nat) (ps pm : List (List Nat)) (B : Nat → Bool) (rs : List Rl) (E Ef : List Ent) (S Sf : List Nat) (md ag ov mdf agf ovf nn : Nat) (hnn : 1 ≤ nn ∧ nn ≤ 1000) (hMC : MC n ps pm B fa) (hSI : SI n room (E, S, md, ag, ov)) (hMR : MR E S fa) (hrl : MRl rs fa) (hroom : 0 < room) (hz : E.length = 0 → md = 0 ∧ ag = 0) (hbw : ov = 1 → bw = nI (E.length - 1)) (hst : rnA ps B n room rs nn (bgS ps B n room (E, S, md, ag, ov)) = (Ef, Sf, mdf, agf, ovf)) : Ctr (S := (Nat → Nat → Int32) × Int32 × (Nat → Value)) vI zl y_M_go b_M_go 3 (Option.some Jvm.ClassFile.FieldType.int) 6 0 0 G [.ref (am 0), .int (nI nn)] ([oM (am 0) [.int th, .int (nI n), .int (nI room), .int (nI Sx), .int (nI Kx), .int (nI rs.length), .ref (am 1), .ref (am 2), .ref (am 3), .ref (am 4), .ref (am 5), .ref (am 6), .ref (am 7), .ref (am 8), .int (nI pm.length), .int (nI E.length), .int (nI S.length), .int (nI md), .int (nI ag), .int (nI (deadN S S.length)), .int (anF ov), .int bw, .ref (am 9), .ref (am 10), .ref (am 11), .ref (am 12), .ref (am 13), .ref (am 14), .ref (am 15), .ref (am 16), .ref (am 17), .ref (am 18), zv 0, zv 1], aI G (am 1) 40 (fa 1), aI G (am 2) 40 (fa 2), aI G (am 3) 40 (fa 3), aI G (am 4) 40 (fa 4), aI G (am 5) 160 (fa 5), aI G (am 6) 160 (fa 6), aZ G (am 7) 64 (fa 7), aI G (am 8) 96 (fa 8), aI G (am 9) 98304 (fa 9), aI G (am 10) 8192 (fa 10), aI G (am 11) 8192 (fa 11), aI G (am 12) 8192 (fa 12), aI G (am 13) 8192 (fa 13), aI G (am 14) 8192 (fa 14), aI G (am 15) 8192 (fa 15), aI G (am 16) 12 (fa 16), aI G (am 17) 12 (fa 17), aI G (am 18) 12 (fa 18)]) (fun r u => r = nI Ef.length ∧ MR Ef Sf u.1 ∧ (∀ i, i < 9 → u.1 i = fa i) ∧ (ovf = 1 → u.2.1 = nI (Ef.length - 1))) (fun u => [oM (am 0) [.int (nI 0), .int (nI n), .int (nI room), .int (nI Sx), .int (nI Kx), .int (nI rs.length), .ref (am 1), .ref (am 2), .ref (am 3), .ref (am 4), .ref (am 5), .ref (am 6), .ref (am 7), .ref (am 8), .int (nI pm.length), .int (nI Ef.length), .int (nI Sf.length), .int (nI mdf), .int (nI agf), .int (nI (deadN Sf Sf.length)), .int (anF ovf), .int u.2.1, .ref (am 9), .ref (am 10), .ref (am 11), .ref (am 12), .ref (am 13), .ref (am 14), .ref (am 15), .ref (am 16), .ref (am 17), .ref (am 18), u.2.2 0, u.2.2 1], aI G (am 1) 40 (u.1 1), aI G (am 2) 40 (u.1 2), aI G (am 3) 40 (u.1 3), aI G (am 4) 40 (u.1 4), aI G (am 5) 160 (u.1 5), aI G (am 6) 160 (u.1 6), aZ G (am 7) 64 (u.1 7), aI G (am 8) 96 (u.1 8), aI G (am 9) 98304 (u.1 9), aI G (am 10) 8192 (u.1 10), aI G (am 11) 8192 (u.1 11), aI G (am 12) 8192 (u.1 12), aI G (am 13) 8192 (u.1 13), aI G (am 14) 8192 (u.1 14), aI G (am 15) 8192 (u.1 15), aI G (am 16) 12 (u.1 16), aI G (am 17) 12 (u.1 17), aI G (am 18) 12 (u.1 18)]) := by
  refine Ctr.start (by decide) (Nat.le_of_ble_eq_true rfl) ?_
  intro zp ze zs zm below meth zc A ls C0 hin hK hA hl hw
  obtain ⟨hx, hb, hr, hlk, hml, hown, hts⟩ := C0
  obtain ⟨R, hRR⟩ : ∃ R : Room, R = rmL 6 0 0 := ⟨_, rfl⟩
  have hRf : R.frames = 6 := by rw [hRR]
  have hRl : R.locals = 64 * 6 := by rw [hRR]
  have hRc : R.cells = 0 := by rw [hRR]
  have hRs : R.slots = 0 := by rw [hRR]
  rw [← hRR]; clear hRR
  generalize hQ : MQ below _ _ zs _ _ A = Q
  generalize hAr : List.toArray _ = args at hts hQ ⊢
  replace hl : lv_has ls 3 [(0, .ref (am 0)), (1, .int (nI nn))] := hl
  obtain ⟨H, eH⟩ : ∃ H : Heap, H = zs.heap := ⟨_, rfl⟩
  obtain ⟨locs, eL⟩ : ∃ l0 : List Loc, l0 = [] := ⟨_, rfl⟩
  rw [← eH, ← eL] at hw ⊢; clear eH eL
  obtain ⟨hn4, hs, hB, h00, hPm, h00m, h24, hPmm, hnum, hfe⟩ := id hMC
  have hrll := hrl.1
  refine lv_aload_n hx hb d_M_go_0 rfl (lv_at hl 0 rfl) ?_
  refine lv_iload_n hx hb d_M_go_1 rfl (lv_at hl 1 rfl) ?_
  refine lv_iconst (v := nI 1) hx hb d_M_go_2 rfl ?_
  refine r_icmp_lt (tgt := 13) hx hb (by omega) (by omega) d_M_go_3 (by decide) (fun c_3 => ?_) (fun c_3 => ?_)
  · skip
    exfalso; omega
  · skip
    refine lv_iload_n hx hb d_M_go_6 rfl (lv_at hl 1 rfl) ?_
    refine lv_sipush (v := nI 1000) hx hb d_M_go_7 (by decide) ?_
    refine r_icmp_le (tgt := 17) hx hb (by omega) (by omega) d_M_go_10 (by decide) (fun c_10 => ?_) (fun c_10 => ?_)
    · skip
      refine lv_iconst (v := nI 0) hx hb d_M_go_17 rfl ?_
      refine lv_iconst (v := nI 0) hx hb d_M_go_18 rfl ?_
      refine xV_i (rest := []) (As := [.int (nI 0), .int (nI 0)]) hx hb hml hown hts hK hA hw k_M_103 (c_M_throwing zl G (am 0) th (nI 0) (nI 0) (.int (nI n)) (.int (nI room)) (.int (nI Sx)) (.int (nI Kx)) (.int (nI rs.length)) (.ref (am 1)) (.ref (am 2)) (.ref (am 3)) (.ref (am 4)) (.ref (am 5)) (.ref (am 6)) (.ref (am 7)) (.ref (am 8)) (.int (nI pm.length)) (.int (nI E.length)) (.int (nI S.length)) (.int (nI md)) (.int (nI ag)) (.int (nI (deadN S S.length))) (.int (anF ov)) (.int bw) (.ref (am 9)) (.ref (am 10)) (.ref (am 11)) (.ref (am 12)) (.ref (am 13)) (.ref (am 14)) (.ref (am 15)) (.ref (am 16)) (.ref (am 17)) (.ref (am 18)) (zv 0) (zv 1)) ([0]) rfl rfl (fun _ => Nat.le_of_ble_eq_true rfl) 0 rfl rfl rfl rfl hl.1 (Nat.le_of_ble_eq_true rfl) ⟨(by omega), (by omega)⟩ ⟨(by omega), (by omega)⟩ d_M_go_19 (fun r u3 H locs hp hw1 => ?_)
      obtain ⟨rfl, rfl⟩ := hp
      refine W.cs (cells' := 0) (slots' := 0) rfl rfl ?_
      replace hw : WW G A zs ([oM (am 0) [.int (nI 0), .int (nI n), .int (nI room), .int (nI Sx), .int (nI Kx), .int (nI rs.length), .ref (am 1), .ref (am 2), .ref (am 3), .ref (am 4), .ref (am 5), .ref (am 6), .ref (am 7), .ref (am 8), .int (nI pm.length), .int (nI E.length), .int (nI S.length), .int (nI md), .int (nI ag), .int (nI (deadN S S.length)), .int (anF ov), .int bw, .ref (am 9), .ref (am 10), .ref (am 11), .ref (am 12), .ref (am 13), .ref (am 14), .ref (am 15), .ref (am 16), .ref (am 17), .ref (am 18), zv 0, zv 1], aI G (am 1) 40 (fa 1), aI G (am 2) 40 (fa 2), aI G (am 3) 40 (fa 3), aI G (am 4) 40 (fa 4), aI G (am 5) 160 (fa 5), aI G (am 6) 160 (fa 6), aZ G (am 7) 64 (fa 7), aI G (am 8) 96 (fa 8), aI G (am 9) 98304 (fa 9), aI G (am 10) 8192 (fa 10), aI G (am 11) 8192 (fa 11), aI G (am 12) 8192 (fa 12), aI G (am 13) 8192 (fa 13), aI G (am 14) 8192 (fa 14), aI G (am 15) 8192 (fa 15), aI G (am 16) 12 (fa 16), aI G (am 17) 12 (fa 17), aI G (am 18) 12 (fa 18)]) H locs := hw1
      refine r_if_eq (tgt := 27) hx hb (by omega) d_M_go_22 (by decide) (fun c_22 => ?_) (fun c_22 => ?_)
      · skip
        refine lv_aload_n hx hb d_M_go_27 rfl (lv_at hl 0 rfl) ?_
        obtain ⟨⟨E1, ag1, ov1⟩, hst1⟩ : ∃ z : List Ent × Nat × Nat, bgA ps B n room E ag ov = z := ⟨_, rfl⟩
        have hst2 : bgS ps B n room (E, S, md, ag, ov) = (E1, S, md, ag1, ov1) := by unfold bgS; rw [hst1]
        have hb := bgS_ok (B := B) hSI h00 hPm hn4 hroom
        rw [hst2] at hb hst
        obtain ⟨hSI1, hL1, hpos1⟩ := hb
        dsimp only at hL1 hpos1
        refine xVA_v (rest := []) (As := []) hx hb hml hown hts hK hA hw k_M_167 (c_M_begin zl G am fa zv (nI 0) bw n room Sx Kx ps pm B rs E E1 S md ag ag1 ov ov1 hMC hSI.1 hSI.2.2.1 hMR hroom hz hbw hst1) 0 rfl rfl rfl rfl hl.1 (Nat.le_of_ble_eq_true rfl) ⟨(by omega), (by omega)⟩ ⟨(by omega), (by omega)⟩ d_M_go_28 (fun _ u9 H locs hp hw1 => ?_)
        obtain ⟨fa1, bw1, zv1⟩ := u9
        obtain ⟨hm1, hk1, hb1⟩ := hp
        refine W.cs (cells' := 0) (slots' := 0) rfl rfl ?_
        replace hw : WW G A zs ([oM (am 0) [.int (nI 0), .int (nI n), .int (nI room), .int (nI Sx), .int (nI Kx), .int (nI rs.length), .ref (am 1), .ref (am 2), .ref (am 3), .ref (am 4), .ref (am 5), .ref (am 6), .ref (am 7), .ref (am 8), .int (nI pm.length), .int (nI E1.length), .int (nI S.length), .int (nI md), .int (nI ag1), .int (nI (deadN S S.length)), .int (anF ov1), .int bw1, .ref (am 9), .ref (am 10), .ref (am 11), .ref (am 12), .ref (am 13), .ref (am 14), .ref (am 15), .ref (am 16), .ref (am 17), .ref (am 18), zv1 0, zv1 1], aI G (am 1) 40 (fa1 1), aI G (am 2) 40 (fa1 2), aI G (am 3) 40 (fa1 3), aI G (am 4) 40 (fa1 4), aI G (am 5) 160 (fa1 5), aI G (am 6) 160 (fa1 6), aZ G (am 7) 64 (fa1 7), aI G (am 8) 96 (fa1 8), aI G (am 9) 98304 (fa1 9), aI G (am 10) 8192 (fa1 10), aI G (am 11) 8192 (fa1 11), aI G (am 12) 8192 (fa1 12), aI G (am 13) 8192 (fa1 13), aI G (am 14) 8192 (fa1 14), aI G (am 15) 8192 (fa1 15), aI G (am 16) 12 (fa1 16), aI G (am 17) 12 (fa1 17), aI G (am 18) 12 (fa1 18)]) H locs := hw1
        refine lv_iconst (v := nI 0) hx hb d_M_go_31 rfl ?_
        refine lv_istore_n (lv' := [(2, .int (nI 0)), (0, .ref (am 0)), (1, .int (nI nn))]) hx hb d_M_go_32 rfl hl (by decide) rfl (fun ls hl => ?_)
        have Lp33 : ∀ N_33 : Nat, ∀ (k : Nat) (E2 : List Ent) (S2 : List Nat) (md2 : Nat) (ag2 : Nat) (ov2 : Nat) (fa2 : Nat → Nat → Int32) (bw2 : Int32) (zv2 : Nat → Value), (k ≤ nn) → (rnA ps B n room rs (nn - k) (E2, S2, md2, ag2, ov2) = (Ef, Sf, mdf, agf, ovf)) → (SI n room (E2, S2, md2, ag2, ov2)) → (MR E2 S2 fa2) → (∀ i, i < 9 → fa2 i = fa i) → (ov2 = 1 → bw2 = nI (E2.length - 1)) → nn - k < N_33 → ∀ (H : Heap) (locs : List Loc) (ls : Array Slot), lv_has ls 3 [(0, .ref (am 0)), (1, .int (nI nn)), (2, .int (nI k))] → WW G A zs ([oM (am 0) [.int (nI 0), .int (nI n), .int (nI room), .int (nI Sx), .int (nI Kx), .int (nI rs.length), .ref (am 1), .ref (am 2), .ref (am 3), .ref (am 4), .ref (am 5), .ref (am 6), .ref (am 7), .ref (am 8), .int (nI pm.length), .int (nI E2.length), .int (nI S2.length), .int (nI md2), .int (nI ag2), .int (nI (deadN S2 S2.length)), .int (anF ov2), .int bw2, .ref (am 9), .ref (am 10), .ref (am 11), .ref (am 12), .ref (am 13), .ref (am 14), .ref (am 15), .ref (am 16), .ref (am 17), .ref (am 18), zv2 0, zv2 1], aI G (am 1) 40 (fa2 1), aI G (am 2) 40 (fa2 2), aI G (am 3) 40 (fa2 3), aI G (am 4) 40 (fa2 4), aI G (am 5) 160 (fa2 5), aI G (am 6) 160 (fa2 6), aZ G (am 7) 64 (fa2 7), aI G (am 8) 96 (fa2 8), aI G (am 9) 98304 (fa2 9), aI G (am 10) 8192 (fa2 10), aI G (am 11) 8192 (fa2 11), aI G (am 12) 8192 (fa2 12), aI G (am 13) 8192 (fa2 13), aI G (am 14) 8192 (fa2 14), aI G (am 15) 8192 (fa2 15), aI G (am 16) 12 (fa2 16), aI G (am 17) 12 (fa2 17), aI G (am 18) 12 (fa2 18)]) H locs → W zp zl ze R zs zm args below meth zc H locs 0 0 Q (F0 zm 33 ls []) := by
          intro N_33
          induction N_33 with
          | zero => intros; omega
          | succ N_33 ih_33 =>
            intro k E2 S2 md2 ag2 ov2 fa2 bw2 zv2 hk hσ hSI2 hMR2 hk2 hbw2 hN_33 H locs ls hl hw
            have hSl := hSI2.2.2.1
            have hE8 := hSI2.1.2.2
            have ho22 := hSI2.2.1
            dsimp only at hSl hE8 ho22
            refine lv_iload_n hx hb d_M_go_33 rfl (lv_at hl 2 rfl) ?_
            refine lv_iload_n hx hb d_M_go_34 rfl (lv_at hl 1 rfl) ?_
            refine r_icmp_ge (tgt := 66) hx hb (by omega) (by omega) d_M_go_35 (by decide) (fun c_35 => ?_) (fun c_35 => ?_)
            · skip
              have hstop : ¬ (ov2 = 0 ∧ S2.length < E2.length) ∨ nn - k = 0 := Or.inr (by omega)
              rw [go_stop hstop] at hσ
              obtain ⟨rfl, rfl, rfl, rfl, rfl⟩ := five_eq hσ.symm
              refine lv_aload_n hx hb d_M_go_66 rfl (lv_at hl 0 rfl) ?_
              refine g_M_82 hx hb hts hown hK hw 0 rfl rfl d_M_go_67 ?_
              exact r_ret hQ (r_iret (fa2, bw2, zv2) hx hb hr hlk hw (⟨rfl, hMR2, hk2, hbw2⟩) (by omega) (by omega) d_M_go_70)
            · skip
              refine lv_aload_n hx hb d_M_go_38 rfl (lv_at hl 0 rfl) ?_
              refine g_M_97 hx hb hts hown hK hw 0 rfl rfl d_M_go_39 ?_
              refine lv_if_ne (tgt := 66) hx hb d_M_go_42 (by decide) (fun c_42 => ?_) (fun c_42 => ?_)
              · skip
                have hstop : ¬ (ov2 = 0 ∧ S2.length < E2.length) ∨ nn - k = 0 := Or.inl (fun z => c_42 ((anF_0 ho22).mpr z.1))
                rw [go_stop hstop] at hσ
                obtain ⟨rfl, rfl, rfl, rfl, rfl⟩ := five_eq hσ.symm
                refine lv_aload_n hx hb d_M_go_66 rfl (lv_at hl 0 rfl) ?_
                refine g_M_82 hx hb hts hown hK hw 0 rfl rfl d_M_go_67 ?_
                exact r_ret hQ (r_iret (fa2, bw2, zv2) hx hb hr hlk hw (⟨rfl, hMR2, hk2, hbw2⟩) (by omega) (by omega) d_M_go_70)
              · skip
                have hov2 : ov2 = 0 := (anF_0 ho22).mp c_42
                refine lv_aload_n hx hb d_M_go_45 rfl (lv_at hl 0 rfl) ?_
                refine g_M_85 hx hb hts hown hK hw 0 rfl rfl d_M_go_46 ?_
                refine lv_aload_n hx hb d_M_go_49 rfl (lv_at hl 0 rfl) ?_
                refine g_M_82 hx hb hts hown hK hw 0 rfl rfl d_M_go_50 ?_
                refine r_icmp_ge (tgt := 66) hx hb (by omega) (by omega) d_M_go_53 (by decide) (fun c_53 => ?_) (fun c_53 => ?_)
                · skip
                  have hstop : ¬ (ov2 = 0 ∧ S2.length < E2.length) ∨ nn - k = 0 := Or.inl (fun z => by omega)
                  rw [go_stop hstop] at hσ
                  obtain ⟨rfl, rfl, rfl, rfl, rfl⟩ := five_eq hσ.symm
                  refine lv_aload_n hx hb d_M_go_66 rfl (lv_at hl 0 rfl) ?_
                  refine g_M_82 hx hb hts hown hK hw 0 rfl rfl d_M_go_67 ?_
                  exact r_ret hQ (r_iret (fa2, bw2, zv2) hx hb hr hlk hw (⟨rfl, hMR2, hk2, hbw2⟩) (by omega) (by omega) d_M_go_70)
                · skip
                  have hgl : S2.length < E2.length := c_53
                  subst hov2
                  replace hw : WW G A zs ([oM (am 0) [.int (nI 0), .int (nI n), .int (nI room), .int (nI Sx), .int (nI Kx), .int (nI rs.length), .ref (am 1), .ref (am 2), .ref (am 3), .ref (am 4), .ref (am 5), .ref (am 6), .ref (am 7), .ref (am 8), .int (nI pm.length), .int (nI E2.length), .int (nI S2.length), .int (nI md2), .int (nI ag2), .int (nI (deadN S2 S2.length)), .int (nI 0), .int bw2, .ref (am 9), .ref (am 10), .ref (am 11), .ref (am 12), .ref (am 13), .ref (am 14), .ref (am 15), .ref (am 16), .ref (am 17), .ref (am 18), zv2 0, zv2 1], aI G (am 1) 40 (fa2 1), aI G (am 2) 40 (fa2 2), aI G (am 3) 40 (fa2 3), aI G (am 4) 40 (fa2 4), aI G (am 5) 160 (fa2 5), aI G (am 6) 160 (fa2 6), aZ G (am 7) 64 (fa2 7), aI G (am 8) 96 (fa2 8), aI G (am 9) 98304 (fa2 9), aI G (am 10) 8192 (fa2 10), aI G (am 11) 8192 (fa2 11), aI G (am 12) 8192 (fa2 12), aI G (am 13) 8192 (fa2 13), aI G (am 14) 8192 (fa2 14), aI G (am 15) 8192 (fa2 15), aI G (am 16) 12 (fa2 16), aI G (am 17) 12 (fa2 17), aI G (am 18) 12 (fa2 18)]) H locs := hw
                  refine lv_aload_n hx hb d_M_go_56 rfl (lv_at hl 0 rfl) ?_
                  obtain ⟨f1, hf1⟩ : ∃ f1, nn - k = f1 + 1 := ⟨nn - k - 1, by omega⟩
                  rw [hf1] at hσ
                  rw [rnA_go (σ := (E2, S2, md2, ag2, 0)) ⟨rfl, hgl⟩] at hσ
                  obtain ⟨⟨E3, c3, md3, ag3, ov3⟩, hst3⟩ : ∃ z : E5, nodesA ps B n room (E2.getD S2.length eD).1 S2.length rs n (E2, 0, md2, ag2, 0) = z := ⟨_, rfl⟩
                  obtain ⟨S3, hS3⟩ : ∃ z, (if ov3 = 0 then S2 ++ [c3] else S2) = z := ⟨_, rfl⟩
                  have hst4 : goS ps B n room rs (E2, S2, md2, ag2, 0) = (E3, S3, md3, ag3, ov3) := by unfold goS goN; rw [hst3, ← hS3]; rfl
                  have hok := goS_ok (B := B) (rs := rs) hSI2 h00 hPm hn4 hrl.2.1 hgl
                  rw [hst4] at hok hσ
                  refine xVA_v (rest := []) (As := []) hx hb hml hown hts hK hA hw k_M_170 (c_M_goThrough zl G am fa2 zv2 (nI 0) bw2 n room Sx Kx ps pm B rs E2 E3 S2 S3 md2 ag2 c3 md3 ag3 ov3 (E2.getD S2.length eD).1 (hMC.kp hk2) hSI2.1 hSI2.2.2.1 hMR2 (hrl.kp hk2) hgl rfl hst3 hS3) 0 rfl rfl rfl rfl hl.1 (Nat.le_of_ble_eq_true rfl) ⟨(by omega), (by omega)⟩ ⟨(by omega), (by omega)⟩ d_M_go_57 (fun _ u9 H locs hp hw1 => ?_)
                  obtain ⟨fa3, bw3, zv3⟩ := u9
                  obtain ⟨hm3, hk3, hb3⟩ := hp
                  refine W.cs (cells' := 0) (slots' := 0) rfl rfl ?_
                  replace hw : WW G A zs ([oM (am 0) [.int (nI 0), .int (nI n), .int (nI room), .int (nI Sx), .int (nI Kx), .int (nI rs.length), .ref (am 1), .ref (am 2), .ref (am 3), .ref (am 4), .ref (am 5), .ref (am 6), .ref (am 7), .ref (am 8), .int (nI pm.length), .int (nI E3.length), .int (nI S3.length), .int (nI md3), .int (nI ag3), .int (nI (deadN S3 S3.length)), .int (anF ov3), .int bw3, .ref (am 9), .ref (am 10), .ref (am 11), .ref (am 12), .ref (am 13), .ref (am 14), .ref (am 15), .ref (am 16), .ref (am 17), .ref (am 18), zv3 0, zv3 1], aI G (am 1) 40 (fa3 1), aI G (am 2) 40 (fa3 2), aI G (am 3) 40 (fa3 3), aI G (am 4) 40 (fa3 4), aI G (am 5) 160 (fa3 5), aI G (am 6) 160 (fa3 6), aZ G (am 7) 64 (fa3 7), aI G (am 8) 96 (fa3 8), aI G (am 9) 98304 (fa3 9), aI G (am 10) 8192 (fa3 10), aI G (am 11) 8192 (fa3 11), aI G (am 12) 8192 (fa3 12), aI G (am 13) 8192 (fa3 13), aI G (am 14) 8192 (fa3 14), aI G (am 15) 8192 (fa3 15), aI G (am 16) 12 (fa3 16), aI G (am 17) 12 (fa3 17), aI G (am 18) 12 (fa3 18)]) H locs := hw1
                  refine r_iincN (n := 1) (lv' := [(2, .int (nI (k + 1))), (0, .ref (am 0)), (1, .int (nI nn))]) hx hb d_M_go_60 hl (k := 2) rfl (by decide) rfl (fun ls hl => ?_)
                  refine lv_goto (tgt := 33) hx hb d_M_go_63 (by decide) ?_
                  exact ih_33 (k + 1) E3 S3 md3 ag3 ov3 fa3 bw3 zv3 (by omega) (by rw [show nn - (k + 1) = f1 by omega]; exact hσ) hok.1 hm3 (kpt hk2 hk3) hb3 (by omega) _ _ _ (lv_sub hl [1, 2, 0] rfl) hw
        exact Lp33 _ 0 E1 S md ag1 ov1 fa1 bw1 zv1 (by omega) hst hSI1 hm1 hk1 hb1 (Nat.lt_succ_self _) _ _ _ (lv_sub hl [1, 2, 0] rfl) hw
      · skip
        exact absurd c_22 (by decide)
    · skip
      exfalso; omega
