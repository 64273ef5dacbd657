theorem addM_fin {f g : Nat → Int32} {c n : Nat} {cs : List Nat} (h : Cds g 5 (ins c cs) ∧ ∀ i, i < 5 → g i = f i) : (∀ i, i < 4 → upd g 4 (nI (n + 1)) i = f i) ∧ upd g 4 (nI (n + 1)) 4 = nI (n + 1) ∧ Cds (upd g 4 (nI (n + 1))) 5 (ins c cs) :=
  ⟨fun i hi => by rw [upd, if_neg (by omega)]; exact h.2 i (by omega), by rw [upd, if_pos rfl], h.1.upd (by omega)⟩
set_option maxHeartbeats 4000000 in
set_option maxRecDepth 100000 in
/-- Model.add: one more code in its order -/
theorem c_M_add (zl : Launch) (G : GG) (h0 qr c : Nat) (fs : List Value) (f : Nat → Int32) (cs : List Nat) (hs : Srt cs) (hn : cs.length < 7) (hcb : ∀ i, cs.getD i 0 < 96) (hc : c < 96) (h4 : f 4 = nI cs.length) (hf : Cds f 5 cs) : Ctr (S := Nat → Int32) vV zl y_M_add b_M_add 5 (Option.none : Option Jvm.ClassFile.FieldType) 0 0 0 G [.ref h0, .ref qr, .int (nI c)] ([oM h0 fs, aI G qr 12 f]) (fun _ g => (∀ i, i < 4 → g i = f i) ∧ g 4 = nI (cs.length + 1) ∧ Cds g 5 (ins c cs)) (fun g => [oM h0 fs, aI G qr 12 g]) := by
  refine Ctr.start (by decide) (Nat.le_of_ble_eq_true rfl) ?_
  intro zp ze zs zm below meth zc A ls C0 hin hK hA hl hw
  obtain ⟨hx, hb, hr, hlk, hml, hown, hts⟩ := C0
  obtain ⟨R, hRR⟩ : ∃ R : Room, R = rmL 0 0 0 := ⟨_, rfl⟩
  have hRf : R.frames = 0 := by rw [hRR]
  have hRl : R.locals = 64 * 0 := by rw [hRR]
  have hRc : R.cells = 0 := by rw [hRR]
  have hRs : R.slots = 0 := by rw [hRR]
  rw [← hRR]; clear hRR
  generalize hQ : MQ below _ _ zs _ _ A = Q
  generalize hAr : List.toArray _ = args at hts hQ ⊢
  replace hl : lv_has ls 5 [(0, .ref h0), (1, .ref qr), (2, .int (nI c))] := hl
  obtain ⟨H, eH⟩ : ∃ H : Heap, H = zs.heap := ⟨_, rfl⟩
  obtain ⟨locs, eL⟩ : ∃ l0 : List Loc, l0 = [] := ⟨_, rfl⟩
  rw [← eH, ← eL] at hw ⊢; clear eH eL
  refine lv_aload_n hx hb d_M_add_0 rfl (lv_at hl 1 rfl) ?_
  refine lv_iconst (v := nI 4) hx hb d_M_add_1 rfl ?_
  refine r_iald hx hb hK hw 1 rfl (by omega) (by omega) d_M_add_2 ?_
  refine r_eq (show f 4 = nI cs.length from h4) ?_
  refine lv_istore_n (lv' := [(3, .int (nI cs.length)), (0, .ref h0), (1, .ref qr), (2, .int (nI c))]) hx hb d_M_add_3 rfl hl (by decide) rfl (fun ls hl => ?_)
  refine lv_iload_n hx hb d_M_add_4 rfl (lv_at hl 0 rfl) ?_
  refine lv_istore (lv' := [(4, .int (nI cs.length)), (3, .int (nI cs.length)), (0, .ref h0), (1, .ref qr), (2, .int (nI c))]) hx hb d_M_add_5 hl (by decide) rfl (fun ls hl => ?_)
  have Lp7 : ∀ N_7 : Nat, ∀ (k : Nat) (g : Nat → Int32), (AddI f 5 cs c k g) → k < N_7 → ∀ (H : Heap) (locs : List Loc) (ls : Array Slot), lv_has ls 5 [(0, .ref h0), (1, .ref qr), (2, .int (nI c)), (3, .int (nI cs.length)), (4, .int (nI k))] → WW G A zs ([oM h0 fs, aI G qr 12 g]) H locs → W zp zl ze R zs zm args below meth zc H locs 0 0 Q (F0 zm 7 ls []) := by
    intro N_7
    induction N_7 with
    | zero => intros; omega
    | succ N_7 ih_7 =>
      intro k g hI hN_7 H locs ls hl hw
      have hk := hI.1
      refine lv_iload hx hb d_M_add_7 (lv_at hl 4 rfl) ?_
      refine r_if_le (tgt := 40) hx hb (by omega) d_M_add_9 (by decide) (fun c_9 => ?_) (fun c_9 => ?_)
      · skip
        refine lv_aload_n hx hb d_M_add_40 rfl (lv_at hl 1 rfl) ?_
        refine lv_iconst (v := nI 5) hx hb d_M_add_41 rfl ?_
        refine lv_iload hx hb d_M_add_42 (lv_at hl 4 rfl) ?_
        refine r_iaddN hx hb d_M_add_44 ?_
        refine lv_iload_n hx hb d_M_add_45 rfl (lv_at hl 2 rfl) ?_
        refine r_iast hx hb hK hw 1 rfl (by omega) (by omega) d_M_add_46 (fun H locs hw1 => ?_)
        replace hw : WW G A zs ([oM h0 fs, aI G qr 12 (upd g (5 + k) (nI c))]) H locs := hw1
        refine lv_aload_n hx hb d_M_add_47 rfl (lv_at hl 1 rfl) ?_
        refine lv_iconst (v := nI 4) hx hb d_M_add_48 rfl ?_
        refine lv_iload_n hx hb d_M_add_49 rfl (lv_at hl 3 rfl) ?_
        refine lv_iconst (v := nI 1) hx hb d_M_add_50 rfl ?_
        refine r_iaddN hx hb d_M_add_51 ?_
        refine r_iast hx hb hK hw 1 rfl (by omega) (by omega) d_M_add_52 (fun H locs hw1 => ?_)
        replace hw : WW G A zs ([oM h0 fs, aI G qr 12 (upd (upd g (5 + k) (nI c)) 4 (nI (cs.length + 1)))]) H locs := hw1
        exact r_ret hQ (r_vret _ hx hb hr hlk hw (addM_fin (hI.fin hs (fun z => by omega) rfl)) (by omega) (by omega) d_M_add_53)
      · skip
        refine lv_aload_n hx hb d_M_add_12 rfl (lv_at hl 1 rfl) ?_
        refine lv_iconst (v := nI 4) hx hb d_M_add_13 rfl ?_
        refine lv_iload hx hb d_M_add_14 (lv_at hl 4 rfl) ?_
        refine r_iaddN hx hb d_M_add_16 ?_
        have hb1 := hcb (k - 1)
        refine r_iald hx hb hK hw 1 rfl (by omega) (by omega) d_M_add_17 ?_
        refine r_eq (show g (4 + k) = nI (cs.getD (k - 1) 0) from hI.rd c_9 (by omega)) ?_
        refine lv_iload_n hx hb d_M_add_18 rfl (lv_at hl 2 rfl) ?_
        refine r_icmp_le (tgt := 40) hx hb (by omega) (by omega) d_M_add_19 (by decide) (fun c_19 => ?_) (fun c_19 => ?_)
        · skip
          refine lv_aload_n hx hb d_M_add_40 rfl (lv_at hl 1 rfl) ?_
          refine lv_iconst (v := nI 5) hx hb d_M_add_41 rfl ?_
          refine lv_iload hx hb d_M_add_42 (lv_at hl 4 rfl) ?_
          refine r_iaddN hx hb d_M_add_44 ?_
          refine lv_iload_n hx hb d_M_add_45 rfl (lv_at hl 2 rfl) ?_
          refine r_iast hx hb hK hw 1 rfl (by omega) (by omega) d_M_add_46 (fun H locs hw1 => ?_)
          replace hw : WW G A zs ([oM h0 fs, aI G qr 12 (upd g (5 + k) (nI c))]) H locs := hw1
          refine lv_aload_n hx hb d_M_add_47 rfl (lv_at hl 1 rfl) ?_
          refine lv_iconst (v := nI 4) hx hb d_M_add_48 rfl ?_
          refine lv_iload_n hx hb d_M_add_49 rfl (lv_at hl 3 rfl) ?_
          refine lv_iconst (v := nI 1) hx hb d_M_add_50 rfl ?_
          refine r_iaddN hx hb d_M_add_51 ?_
          refine r_iast hx hb hK hw 1 rfl (by omega) (by omega) d_M_add_52 (fun H locs hw1 => ?_)
          replace hw : WW G A zs ([oM h0 fs, aI G qr 12 (upd (upd g (5 + k) (nI c)) 4 (nI (cs.length + 1)))]) H locs := hw1
          exact r_ret hQ (r_vret _ hx hb hr hlk hw (addM_fin (hI.fin hs (fun _ => c_19) rfl)) (by omega) (by omega) d_M_add_53)
        · skip
          refine lv_aload_n hx hb d_M_add_22 rfl (lv_at hl 1 rfl) ?_
          refine lv_iconst (v := nI 5) hx hb d_M_add_23 rfl ?_
          refine lv_iload hx hb d_M_add_24 (lv_at hl 4 rfl) ?_
          refine r_iaddN hx hb d_M_add_26 ?_
          refine lv_aload_n hx hb d_M_add_27 rfl (lv_at hl 1 rfl) ?_
          refine lv_iconst (v := nI 4) hx hb d_M_add_28 rfl ?_
          refine lv_iload hx hb d_M_add_29 (lv_at hl 4 rfl) ?_
          refine r_iaddN hx hb d_M_add_31 ?_
          refine r_iald hx hb hK hw 1 rfl (by omega) (by omega) d_M_add_32 ?_
          refine r_eq (show g (4 + k) = nI (cs.getD (k - 1) 0) from hI.rd c_9 (by omega)) ?_
          refine r_iast hx hb hK hw 1 rfl (by omega) (by omega) d_M_add_33 (fun H locs hw1 => ?_)
          replace hw : WW G A zs ([oM h0 fs, aI G qr 12 (upd g (5 + k) (nI (cs.getD (k - 1) 0)))]) H locs := hw1
          refine lv_iinc (v := nI (k - 1)) (lv' := [(4, .int (nI (k - 1))), (0, .ref h0), (1, .ref qr), (2, .int (nI c)), (3, .int (nI cs.length))]) hx hb d_M_add_34 hl (k := 4) rfl (sb_m1 (by omega)) (by decide) rfl (fun ls hl => ?_)
          refine lv_goto (tgt := 7) hx hb d_M_add_37 (by decide) ?_
          exact ih_7 (k - 1) (upd g (5 + k) (nI (cs.getD (k - 1) 0))) (hI.step c_9 c_19 rfl) (by omega) _ _ _ (lv_sub hl [1, 2, 3, 4, 0] rfl) hw
  exact Lp7 _ cs.length f (AddI.init hf) (Nat.lt_succ_self _) _ _ _ (lv_sub hl [2, 3, 4, 1, 0] rfl) hw
set_option maxHeartbeats 4000000 in
set_option maxRecDepth 100000 in
/-- Whole.add, there is room -/
theorem c_W_add (zl : Launch) (G : GG) (h0 qs qc c : Nat) (f : Nat → Int32) (cs : List Nat) (hs : Srt cs) (hn : cs.length < 7) (hcb : ∀ i, cs.getD i 0 < 96) (hc : c < 96) (hf : Cds f 0 cs) : Ctr (S := Nat → Int32) vI zl y_W_add b_W_add 3 (Option.some Jvm.ClassFile.FieldType.boolean) 0 0 0 G [.ref h0, .int (nI c)] ([oW h0 [.ref qs, .ref qc, .int (nI cs.length)], aI G qc 8 f]) (fun r g => r = nI 1 ∧ Cds g 0 (ins c cs)) (fun g => [oW h0 [.ref qs, .ref qc, .int (nI (cs.length + 1))], aI G qc 8 g]) := by
  refine Ctr.start (by decide) (Nat.le_of_ble_eq_true rfl) ?_
  intro zp ze zs zm below meth zc A ls C0 hin hK hA hl hw
  obtain ⟨hx, hb, hr, hlk, hml, hown, hts⟩ := C0
  obtain ⟨R, hRR⟩ : ∃ R : Room, R = rmL 0 0 0 := ⟨_, rfl⟩
  have hRf : R.frames = 0 := by rw [hRR]
  have hRl : R.locals = 64 * 0 := by rw [hRR]
  have hRc : R.cells = 0 := by rw [hRR]
  have hRs : R.slots = 0 := by rw [hRR]
  rw [← hRR]; clear hRR
  generalize hQ : MQ below _ _ zs _ _ A = Q
  generalize hAr : List.toArray _ = args at hts hQ ⊢
  replace hl : lv_has ls 3 [(0, .ref h0), (1, .int (nI c))] := hl
  obtain ⟨H, eH⟩ : ∃ H : Heap, H = zs.heap := ⟨_, rfl⟩
  obtain ⟨locs, eL⟩ : ∃ l0 : List Loc, l0 = [] := ⟨_, rfl⟩
  rw [← eH, ← eL] at hw ⊢; clear eH eL
  refine lv_aload_n hx hb d_W_add_0 rfl (lv_at hl 0 rfl) ?_
  refine g_W_24 hx hb hts hown hK hw 0 rfl rfl d_W_add_1 ?_
  refine lv_bipush (v := nI 7) hx hb d_W_add_4 (by decide) ?_
  refine r_icmp_ne (tgt := 11) hx hb (by omega) (by omega) d_W_add_6 (by decide) (fun c_6 => ?_) (fun c_6 => ?_)
  · skip
    refine lv_aload_n hx hb d_W_add_11 rfl (lv_at hl 0 rfl) ?_
    refine g_W_24 hx hb hts hown hK hw 0 rfl rfl d_W_add_12 ?_
    refine lv_istore_n (lv' := [(2, .int (nI cs.length)), (0, .ref h0), (1, .int (nI c))]) hx hb d_W_add_15 rfl hl (by decide) rfl (fun ls hl => ?_)
    have Lp16 : ∀ N_16 : Nat, ∀ (k : Nat) (g : Nat → Int32), (AddI f 0 cs c k g) → k < N_16 → ∀ (H : Heap) (locs : List Loc) (ls : Array Slot), lv_has ls 3 [(0, .ref h0), (1, .int (nI c)), (2, .int (nI k))] → WW G A zs ([oW h0 [.ref qs, .ref qc, .int (nI cs.length)], aI G qc 8 g]) H locs → W zp zl ze R zs zm args below meth zc H locs 0 0 Q (F0 zm 16 ls []) := by
      intro N_16
      induction N_16 with
      | zero => intros; omega
      | succ N_16 ih_16 =>
        intro k g hI hN_16 H locs ls hl hw
        have hk := hI.1
        refine lv_iload_n hx hb d_W_add_16 rfl (lv_at hl 2 rfl) ?_
        refine r_if_le (tgt := 52) hx hb (by omega) d_W_add_17 (by decide) (fun c_17 => ?_) (fun c_17 => ?_)
        · skip
          refine lv_aload_n hx hb d_W_add_52 rfl (lv_at hl 0 rfl) ?_
          refine g_W_15 hx hb hts hown hK hw 0 rfl rfl d_W_add_53 ?_
          refine lv_iload_n hx hb d_W_add_56 rfl (lv_at hl 2 rfl) ?_
          refine lv_iload_n hx hb d_W_add_57 rfl (lv_at hl 1 rfl) ?_
          refine r_iast hx hb hK hw 1 rfl (by omega) (by omega) d_W_add_58 (fun H locs hw1 => ?_)
          replace hw : WW G A zs ([oW h0 [.ref qs, .ref qc, .int (nI cs.length)], aI G qc 8 (upd g k (nI c))]) H locs := hw1
          refine lv_aload_n hx hb d_W_add_59 rfl (lv_at hl 0 rfl) ?_
          refine lv_dup hx hb d_W_add_60 rfl ?_
          refine g_W_24 hx hb hts hown hK hw 0 rfl rfl d_W_add_61 ?_
          refine lv_iconst (v := nI 1) hx hb d_W_add_64 rfl ?_
          refine r_iaddN hx hb d_W_add_65 ?_
          refine p_W_24 hx hb hts hown hK hw 0 rfl (Nat.le_of_ble_eq_true rfl) d_W_add_66 (fun H locs hw1 => ?_)
          replace hw : WW G A zs ([oW h0 [.ref qs, .ref qc, .int (nI (cs.length + 1))], aI G qc 8 (upd g k (nI c))]) H locs := hw1
          refine lv_iconst (v := nI 1) hx hb d_W_add_69 rfl ?_
          exact r_ret hQ (r_zret _ hx hb hr hlk hw (⟨rfl, (hI.fin hs (fun z => by omega) (by omega)).1⟩) (by decide) (by omega) (by omega) d_W_add_70)
        · skip
          refine lv_aload_n hx hb d_W_add_20 rfl (lv_at hl 0 rfl) ?_
          refine g_W_15 hx hb hts hown hK hw 0 rfl rfl d_W_add_21 ?_
          refine lv_iload_n hx hb d_W_add_24 rfl (lv_at hl 2 rfl) ?_
          refine lv_iconst (v := nI 1) hx hb d_W_add_25 rfl ?_
          refine r_isubN hx hb (by omega) d_W_add_26 ?_
          have hb1 := hcb (k - 1)
          refine r_iald hx hb hK hw 1 rfl (by omega) (by omega) d_W_add_27 ?_
          refine r_eq (show g (k - 1) = nI (cs.getD (k - 1) 0) from hI.rd c_17 (by omega)) ?_
          refine lv_iload_n hx hb d_W_add_28 rfl (lv_at hl 1 rfl) ?_
          refine r_icmp_le (tgt := 52) hx hb (by omega) (by omega) d_W_add_29 (by decide) (fun c_29 => ?_) (fun c_29 => ?_)
          · skip
            refine lv_aload_n hx hb d_W_add_52 rfl (lv_at hl 0 rfl) ?_
            refine g_W_15 hx hb hts hown hK hw 0 rfl rfl d_W_add_53 ?_
            refine lv_iload_n hx hb d_W_add_56 rfl (lv_at hl 2 rfl) ?_
            refine lv_iload_n hx hb d_W_add_57 rfl (lv_at hl 1 rfl) ?_
            refine r_iast hx hb hK hw 1 rfl (by omega) (by omega) d_W_add_58 (fun H locs hw1 => ?_)
            replace hw : WW G A zs ([oW h0 [.ref qs, .ref qc, .int (nI cs.length)], aI G qc 8 (upd g k (nI c))]) H locs := hw1
            refine lv_aload_n hx hb d_W_add_59 rfl (lv_at hl 0 rfl) ?_
            refine lv_dup hx hb d_W_add_60 rfl ?_
            refine g_W_24 hx hb hts hown hK hw 0 rfl rfl d_W_add_61 ?_
            refine lv_iconst (v := nI 1) hx hb d_W_add_64 rfl ?_
            refine r_iaddN hx hb d_W_add_65 ?_
            refine p_W_24 hx hb hts hown hK hw 0 rfl (Nat.le_of_ble_eq_true rfl) d_W_add_66 (fun H locs hw1 => ?_)
            replace hw : WW G A zs ([oW h0 [.ref qs, .ref qc, .int (nI (cs.length + 1))], aI G qc 8 (upd g k (nI c))]) H locs := hw1
            refine lv_iconst (v := nI 1) hx hb d_W_add_69 rfl ?_
            exact r_ret hQ (r_zret _ hx hb hr hlk hw (⟨rfl, (hI.fin hs (fun _ => c_29) (by omega)).1⟩) (by decide) (by omega) (by omega) d_W_add_70)
          · skip
            refine lv_aload_n hx hb d_W_add_32 rfl (lv_at hl 0 rfl) ?_
            refine g_W_15 hx hb hts hown hK hw 0 rfl rfl d_W_add_33 ?_
            refine lv_iload_n hx hb d_W_add_36 rfl (lv_at hl 2 rfl) ?_
            refine lv_aload_n hx hb d_W_add_37 rfl (lv_at hl 0 rfl) ?_
            refine g_W_15 hx hb hts hown hK hw 0 rfl rfl d_W_add_38 ?_
            refine lv_iload_n hx hb d_W_add_41 rfl (lv_at hl 2 rfl) ?_
            refine lv_iconst (v := nI 1) hx hb d_W_add_42 rfl ?_
            refine r_isubN hx hb (by omega) d_W_add_43 ?_
            refine r_iald hx hb hK hw 1 rfl (by omega) (by omega) d_W_add_44 ?_
            refine r_eq (show g (k - 1) = nI (cs.getD (k - 1) 0) from hI.rd c_17 (by omega)) ?_
            refine r_iast hx hb hK hw 1 rfl (by omega) (by omega) d_W_add_45 (fun H locs hw1 => ?_)
            replace hw : WW G A zs ([oW h0 [.ref qs, .ref qc, .int (nI cs.length)], aI G qc 8 (upd g k (nI (cs.getD (k - 1) 0)))]) H locs := hw1
            refine lv_iinc (v := nI (k - 1)) (lv' := [(2, .int (nI (k - 1))), (0, .ref h0), (1, .int (nI c))]) hx hb d_W_add_46 hl (k := 2) rfl (sb_m1 (by omega)) (by decide) rfl (fun ls hl => ?_)
            refine lv_goto (tgt := 16) hx hb d_W_add_49 (by decide) ?_
            exact ih_16 (k - 1) (upd g k (nI (cs.getD (k - 1) 0))) (hI.step c_17 c_29 (by omega)) (by omega) _ _ _ (lv_sub hl [1, 2, 0] rfl) hw
    exact Lp16 _ cs.length f (AddI.init hf) (Nat.lt_succ_self _) _ _ _ (lv_sub hl [1, 2, 0] rfl) hw
  · skip
    exfalso; omega
set_option maxHeartbeats 4000000 in
set_option maxRecDepth 100000 in
/-- Whole.add, there is no room -/
theorem c_W_addF (zl : Launch) (G : GG) (h0 qs qc c n : Nat) (f : Nat → Int32) (hn : n = 7) : Ctr (S := Unit) vI zl y_W_add b_W_add 3 (Option.some Jvm.ClassFile.FieldType.boolean) 0 0 0 G [.ref h0, .int (nI c)] ([oW h0 [.ref qs, .ref qc, .int (nI n)], aI G qc 8 f]) (fun r _ => r = nI 0) (fun _ => [oW h0 [.ref qs, .ref qc, .int (nI n)], aI G qc 8 f]) := by
  refine Ctr.start (by decide) (Nat.le_of_ble_eq_true rfl) ?_
  intro zp ze zs zm below meth zc A ls C0 hin hK hA hl hw
  obtain ⟨hx, hb, hr, hlk, hml, hown, hts⟩ := C0
  obtain ⟨R, hRR⟩ : ∃ R : Room, R = rmL 0 0 0 := ⟨_, rfl⟩
  have hRf : R.frames = 0 := by rw [hRR]
  have hRl : R.locals = 64 * 0 := by rw [hRR]
  have hRc : R.cells = 0 := by rw [hRR]
  have hRs : R.slots = 0 := by rw [hRR]
  rw [← hRR]; clear hRR
  generalize hQ : MQ below _ _ zs _ _ A = Q
  generalize hAr : List.toArray _ = args at hts hQ ⊢
  replace hl : lv_has ls 3 [(0, .ref h0), (1, .int (nI c))] := hl
  obtain ⟨H, eH⟩ : ∃ H : Heap, H = zs.heap := ⟨_, rfl⟩
  obtain ⟨locs, eL⟩ : ∃ l0 : List Loc, l0 = [] := ⟨_, rfl⟩
  rw [← eH, ← eL] at hw ⊢; clear eH eL
  refine lv_aload_n hx hb d_W_add_0 rfl (lv_at hl 0 rfl) ?_
  refine g_W_24 hx hb hts hown hK hw 0 rfl rfl d_W_add_1 ?_
  refine lv_bipush (v := nI 7) hx hb d_W_add_4 (by decide) ?_
  refine r_icmp_ne (tgt := 11) hx hb (by omega) (by omega) d_W_add_6 (by decide) (fun c_6 => ?_) (fun c_6 => ?_)
  · skip
    exfalso; omega
  · skip
    refine lv_iconst (v := nI 0) hx hb d_W_add_9 rfl ?_
    exact r_ret hQ (r_zret () hx hb hr hlk hw rfl (by decide) (by omega) (by omega) d_W_add_10)
