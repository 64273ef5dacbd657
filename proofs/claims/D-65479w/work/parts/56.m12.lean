theorem num_fill {f : Nat → Int32} {b i k : Nat} (h : ∀ t, t < i → f (b + t) = nI (k / 2 ^ (2 * t) % 4)) : ∀ t, t < i + 1 → upd f (b + i) (nI (k / 2 ^ (2 * i) % 4)) (b + t) = nI (k / 2 ^ (2 * t) % 4) := by
  intro t ht
  rw [upd]
  by_cases he : t = i
  · rw [if_pos (by omega), he]
  · rw [if_neg (by omega)]; exact h t (by omega)
set_option maxHeartbeats 4000000 in
set_option maxRecDepth 100000 in
theorem c_M_init (zl : Launch) (G : GG) (h0 n room : Nat) (x z : Int32) (hn1 : 1 ≤ n) (hn4 : n ≤ 4) (hr1 : 1 ≤ room) (hr8 : room ≤ 8192) (hn0 : (x - nI 1) &&& nI 3 = nI (n - 1)) (hr0 : (z - nI 1) &&& nI 8191 = nI (room - 1)) : Ctr (S := (Nat → Nat) × (Nat → Nat → Int32)) vV zl y_M_init b_M_init 6 (Option.none : Option Jvm.ClassFile.FieldType) 1 18 148132 G [.ref h0, .int x, .int z] ([oM h0 [.int 0, .int 0, .int 0, .int 0, .int 0, .int 0, .null, .null, .null, .null, .null, .null, .null, .null, .int 0, .int 0, .int 0, .int 0, .int 0, .int 0, .int 0, .int 0, .null, .null, .null, .null, .null, .null, .null, .null, .null, .null, .int 0, .int 0]]) (fun _ u => (∀ i, i ≠ 8 → u.2 i = fun _ => 0) ∧ NumI n (PMk n 256) (u.2 8)) (fun u => [oM h0 [.int 0, .int (nI n), .int (nI room), .int (nI 1), .int (nI 0), .int (nI (([] : List Rl).length)), .ref (u.1 1), .ref (u.1 2), .ref (u.1 3), .ref (u.1 4), .ref (u.1 5), .ref (u.1 6), .ref (u.1 7), .ref (u.1 8), .int (nI ((PMk n 256).length)), .int (nI (([] : List Ent).length)), .int (nI (([] : List Nat).length)), .int (nI 0), .int (nI 0), .int (nI (deadN ([] : List Nat) ([] : List Nat).length)), .int (anF 0), .int 0, .ref (u.1 9), .ref (u.1 10), .ref (u.1 11), .ref (u.1 12), .ref (u.1 13), .ref (u.1 14), .ref (u.1 15), .ref (u.1 16), .ref (u.1 17), .ref (u.1 18), .int 0, .int 0], aI G (u.1 1) 40 (u.2 1), aI G (u.1 2) 40 (u.2 2), aI G (u.1 3) 40 (u.2 3), aI G (u.1 4) 40 (u.2 4), aI G (u.1 5) 160 (u.2 5), aI G (u.1 6) 160 (u.2 6), aZ G (u.1 7) 64 (u.2 7), aI G (u.1 8) 96 (u.2 8), aI G (u.1 9) 98304 (u.2 9), aI G (u.1 10) 8192 (u.2 10), aI G (u.1 11) 8192 (u.2 11), aI G (u.1 12) 8192 (u.2 12), aI G (u.1 13) 8192 (u.2 13), aI G (u.1 14) 8192 (u.2 14), aI G (u.1 15) 8192 (u.2 15), aI G (u.1 16) 12 (u.2 16), aI G (u.1 17) 12 (u.2 17), aI G (u.1 18) 12 (u.2 18)]) := by
  refine Ctr.start (by decide) (Nat.le_of_ble_eq_true rfl) ?_
  intro zp ze zs zm below meth zc A ls C0 hin hK hA hl hw
  obtain ⟨hx, hb, hr, hlk, hml, hown, hts⟩ := C0
  obtain ⟨R, hRR⟩ : ∃ R : Room, R = rmL 1 18 148132 := ⟨_, rfl⟩
  have hRf : R.frames = 1 := by rw [hRR]
  have hRl : R.locals = 64 * 1 := by rw [hRR]
  have hRc : R.cells = 18 := by rw [hRR]
  have hRs : R.slots = 148132 := by rw [hRR]
  rw [← hRR]; clear hRR
  generalize hQ : MQ below _ _ zs _ _ A = Q
  generalize hAr : List.toArray _ = args at hts hQ ⊢
  replace hl : lv_has ls 6 [(0, .ref h0), (1, .int x), (2, .int z)] := hl
  obtain ⟨H, eH⟩ : ∃ H : Heap, H = zs.heap := ⟨_, rfl⟩
  obtain ⟨locs, eL⟩ : ∃ l0 : List Loc, l0 = [] := ⟨_, rfl⟩
  rw [← eH, ← eL] at hw ⊢; clear eH eL
  have hn2 : 2 ^ n ≤ 16 := Nat.pow_le_pow_right (by decide) hn4
  have hn3 : 0 < 2 ^ n := Nat.pow_pos (by decide)
  refine lv_aload_n hx hb d_M_init_0 rfl (lv_at hl 0 rfl) ?_
  refine W.objInit hx hb hown (hts _ tm_467) (hts _ tm_20) (hts _ tm_21) rfl (by rw [hml]; exact hl.1) rfl d_M_init_1 (by omega) (by rw [hRl]; exact Nat.le_of_ble_eq_true rfl) ?_
  refine W.eq (g2 := F0 zm 4 ls []) rfl ?_
  refine lv_aload_n hx hb d_M_init_4 rfl (lv_at hl 0 rfl) ?_
  refine lv_iconst (v := nI 1) hx hb d_M_init_5 rfl ?_
  refine p_M_7 hx hb hts hown hK hw 0 rfl (Nat.le_of_ble_eq_true rfl) d_M_init_6 (fun H locs hw1 => ?_)
  replace hw : WW G A zs ([oM h0 [.int 0, .int 0, .int 0, .int (nI 1), .int 0, .int 0, .null, .null, .null, .null, .null, .null, .null, .null, .int 0, .int 0, .int 0, .int 0, .int 0, .int 0, .int 0, .int 0, .null, .null, .null, .null, .null, .null, .null, .null, .null, .null, .int 0, .int 0]]) H locs := hw1
  refine lv_aload_n hx hb d_M_init_9 rfl (lv_at hl 0 rfl) ?_
  refine lv_bipush (v := nI 40) hx hb d_M_init_10 (by decide) ?_
  refine r_newI hx hb hts hK hA hw (by omega) (by omega) (by omega) d_M_init_12 (fun a1 H hw1 => ?_)
  replace hw : WW G A zs ([oM h0 [.int 0, .int 0, .int 0, .int (nI 1), .int 0, .int 0, .null, .null, .null, .null, .null, .null, .null, .null, .int 0, .int 0, .int 0, .int 0, .int 0, .int 0, .int 0, .int 0, .null, .null, .null, .null, .null, .null, .null, .null, .null, .null, .int 0, .int 0], aI G a1 40 (fun _ => 0)]) H locs := hw1
  refine p_M_13 hx hb hts hown hin hK hw 0 rfl (Nat.le_of_ble_eq_true rfl) d_M_init_14 (fun H locs hw1 => ?_)
  replace hw : WW G A zs ([oM h0 [.int 0, .int 0, .int 0, .int (nI 1), .int 0, .int 0, .ref a1, .null, .null, .null, .null, .null, .null, .null, .int 0, .int 0, .int 0, .int 0, .int 0, .int 0, .int 0, .int 0, .null, .null, .null, .null, .null, .null, .null, .null, .null, .null, .int 0, .int 0], aI G a1 40 (fun _ => 0)]) H locs := hw1
  refine lv_aload_n hx hb d_M_init_17 rfl (lv_at hl 0 rfl) ?_
  refine lv_bipush (v := nI 40) hx hb d_M_init_18 (by decide) ?_
  refine r_newI hx hb hts hK hA hw (by omega) (by omega) (by omega) d_M_init_20 (fun a2 H hw1 => ?_)
  replace hw : WW G A zs ([oM h0 [.int 0, .int 0, .int 0, .int (nI 1), .int 0, .int 0, .ref a1, .null, .null, .null, .null, .null, .null, .null, .int 0, .int 0, .int 0, .int 0, .int 0, .int 0, .int 0, .int 0, .null, .null, .null, .null, .null, .null, .null, .null, .null, .null, .int 0, .int 0], aI G a1 40 (fun _ => 0), aI G a2 40 (fun _ => 0)]) H locs := hw1
  refine p_M_17 hx hb hts hown hin hK hw 0 rfl (Nat.le_of_ble_eq_true rfl) d_M_init_22 (fun H locs hw1 => ?_)
  replace hw : WW G A zs ([oM h0 [.int 0, .int 0, .int 0, .int (nI 1), .int 0, .int 0, .ref a1, .ref a2, .null, .null, .null, .null, .null, .null, .int 0, .int 0, .int 0, .int 0, .int 0, .int 0, .int 0, .int 0, .null, .null, .null, .null, .null, .null, .null, .null, .null, .null, .int 0, .int 0], aI G a1 40 (fun _ => 0), aI G a2 40 (fun _ => 0)]) H locs := hw1
  refine lv_aload_n hx hb d_M_init_25 rfl (lv_at hl 0 rfl) ?_
  refine lv_bipush (v := nI 40) hx hb d_M_init_26 (by decide) ?_
  refine r_newI hx hb hts hK hA hw (by omega) (by omega) (by omega) d_M_init_28 (fun a3 H hw1 => ?_)
  replace hw : WW G A zs ([oM h0 [.int 0, .int 0, .int 0, .int (nI 1), .int 0, .int 0, .ref a1, .ref a2, .null, .null, .null, .null, .null, .null, .int 0, .int 0, .int 0, .int 0, .int 0, .int 0, .int 0, .int 0, .null, .null, .null, .null, .null, .null, .null, .null, .null, .null, .int 0, .int 0], aI G a1 40 (fun _ => 0), aI G a2 40 (fun _ => 0), aI G a3 40 (fun _ => 0)]) H locs := hw1
  refine p_M_20 hx hb hts hown hin hK hw 0 rfl (Nat.le_of_ble_eq_true rfl) d_M_init_30 (fun H locs hw1 => ?_)
  replace hw : WW G A zs ([oM h0 [.int 0, .int 0, .int 0, .int (nI 1), .int 0, .int 0, .ref a1, .ref a2, .ref a3, .null, .null, .null, .null, .null, .int 0, .int 0, .int 0, .int 0, .int 0, .int 0, .int 0, .int 0, .null, .null, .null, .null, .null, .null, .null, .null, .null, .null, .int 0, .int 0], aI G a1 40 (fun _ => 0), aI G a2 40 (fun _ => 0), aI G a3 40 (fun _ => 0)]) H locs := hw1
  refine lv_aload_n hx hb d_M_init_33 rfl (lv_at hl 0 rfl) ?_
  refine lv_bipush (v := nI 40) hx hb d_M_init_34 (by decide) ?_
  refine r_newI hx hb hts hK hA hw (by omega) (by omega) (by omega) d_M_init_36 (fun a4 H hw1 => ?_)
  replace hw : WW G A zs ([oM h0 [.int 0, .int 0, .int 0, .int (nI 1), .int 0, .int 0, .ref a1, .ref a2, .ref a3, .null, .null, .null, .null, .null, .int 0, .int 0, .int 0, .int 0, .int 0, .int 0, .int 0, .int 0, .null, .null, .null, .null, .null, .null, .null, .null, .null, .null, .int 0, .int 0], aI G a1 40 (fun _ => 0), aI G a2 40 (fun _ => 0), aI G a3 40 (fun _ => 0), aI G a4 40 (fun _ => 0)]) H locs := hw1
  refine p_M_23 hx hb hts hown hin hK hw 0 rfl (Nat.le_of_ble_eq_true rfl) d_M_init_38 (fun H locs hw1 => ?_)
  replace hw : WW G A zs ([oM h0 [.int 0, .int 0, .int 0, .int (nI 1), .int 0, .int 0, .ref a1, .ref a2, .ref a3, .ref a4, .null, .null, .null, .null, .int 0, .int 0, .int 0, .int 0, .int 0, .int 0, .int 0, .int 0, .null, .null, .null, .null, .null, .null, .null, .null, .null, .null, .int 0, .int 0], aI G a1 40 (fun _ => 0), aI G a2 40 (fun _ => 0), aI G a3 40 (fun _ => 0), aI G a4 40 (fun _ => 0)]) H locs := hw1
  refine lv_aload_n hx hb d_M_init_41 rfl (lv_at hl 0 rfl) ?_
  refine lv_sipush (v := nI 160) hx hb d_M_init_42 (by decide) ?_
  refine r_newI hx hb hts hK hA hw (by omega) (by omega) (by omega) d_M_init_45 (fun a5 H hw1 => ?_)
  replace hw : WW G A zs ([oM h0 [.int 0, .int 0, .int 0, .int (nI 1), .int 0, .int 0, .ref a1, .ref a2, .ref a3, .ref a4, .null, .null, .null, .null, .int 0, .int 0, .int 0, .int 0, .int 0, .int 0, .int 0, .int 0, .null, .null, .null, .null, .null, .null, .null, .null, .null, .null, .int 0, .int 0], aI G a1 40 (fun _ => 0), aI G a2 40 (fun _ => 0), aI G a3 40 (fun _ => 0), aI G a4 40 (fun _ => 0), aI G a5 160 (fun _ => 0)]) H locs := hw1
  refine p_M_26 hx hb hts hown hin hK hw 0 rfl (Nat.le_of_ble_eq_true rfl) d_M_init_47 (fun H locs hw1 => ?_)
  replace hw : WW G A zs ([oM h0 [.int 0, .int 0, .int 0, .int (nI 1), .int 0, .int 0, .ref a1, .ref a2, .ref a3, .ref a4, .ref a5, .null, .null, .null, .int 0, .int 0, .int 0, .int 0, .int 0, .int 0, .int 0, .int 0, .null, .null, .null, .null, .null, .null, .null, .null, .null, .null, .int 0, .int 0], aI G a1 40 (fun _ => 0), aI G a2 40 (fun _ => 0), aI G a3 40 (fun _ => 0), aI G a4 40 (fun _ => 0), aI G a5 160 (fun _ => 0)]) H locs := hw1
  refine lv_aload_n hx hb d_M_init_50 rfl (lv_at hl 0 rfl) ?_
  refine lv_sipush (v := nI 160) hx hb d_M_init_51 (by decide) ?_
  refine r_newI hx hb hts hK hA hw (by omega) (by omega) (by omega) d_M_init_54 (fun a6 H hw1 => ?_)
  replace hw : WW G A zs ([oM h0 [.int 0, .int 0, .int 0, .int (nI 1), .int 0, .int 0, .ref a1, .ref a2, .ref a3, .ref a4, .ref a5, .null, .null, .null, .int 0, .int 0, .int 0, .int 0, .int 0, .int 0, .int 0, .int 0, .null, .null, .null, .null, .null, .null, .null, .null, .null, .null, .int 0, .int 0], aI G a1 40 (fun _ => 0), aI G a2 40 (fun _ => 0), aI G a3 40 (fun _ => 0), aI G a4 40 (fun _ => 0), aI G a5 160 (fun _ => 0), aI G a6 160 (fun _ => 0)]) H locs := hw1
  refine p_M_29 hx hb hts hown hin hK hw 0 rfl (Nat.le_of_ble_eq_true rfl) d_M_init_56 (fun H locs hw1 => ?_)
  replace hw : WW G A zs ([oM h0 [.int 0, .int 0, .int 0, .int (nI 1), .int 0, .int 0, .ref a1, .ref a2, .ref a3, .ref a4, .ref a5, .ref a6, .null, .null, .int 0, .int 0, .int 0, .int 0, .int 0, .int 0, .int 0, .int 0, .null, .null, .null, .null, .null, .null, .null, .null, .null, .null, .int 0, .int 0], aI G a1 40 (fun _ => 0), aI G a2 40 (fun _ => 0), aI G a3 40 (fun _ => 0), aI G a4 40 (fun _ => 0), aI G a5 160 (fun _ => 0), aI G a6 160 (fun _ => 0)]) H locs := hw1
  refine lv_aload_n hx hb d_M_init_59 rfl (lv_at hl 0 rfl) ?_
  refine lv_bipush (v := nI 64) hx hb d_M_init_60 (by decide) ?_
  refine r_newZ hx hb hts hK hA hw (by omega) (by omega) (by omega) d_M_init_62 (fun a7 H hw1 => ?_)
  replace hw : WW G A zs ([oM h0 [.int 0, .int 0, .int 0, .int (nI 1), .int 0, .int 0, .ref a1, .ref a2, .ref a3, .ref a4, .ref a5, .ref a6, .null, .null, .int 0, .int 0, .int 0, .int 0, .int 0, .int 0, .int 0, .int 0, .null, .null, .null, .null, .null, .null, .null, .null, .null, .null, .int 0, .int 0], aI G a1 40 (fun _ => 0), aI G a2 40 (fun _ => 0), aI G a3 40 (fun _ => 0), aI G a4 40 (fun _ => 0), aI G a5 160 (fun _ => 0), aI G a6 160 (fun _ => 0), aZ G a7 64 (fun _ => 0)]) H locs := hw1
  refine p_M_32 hx hb hts hown hin hK hw 0 rfl (Nat.le_of_ble_eq_true rfl) d_M_init_64 (fun H locs hw1 => ?_)
  replace hw : WW G A zs ([oM h0 [.int 0, .int 0, .int 0, .int (nI 1), .int 0, .int 0, .ref a1, .ref a2, .ref a3, .ref a4, .ref a5, .ref a6, .ref a7, .null, .int 0, .int 0, .int 0, .int 0, .int 0, .int 0, .int 0, .int 0, .null, .null, .null, .null, .null, .null, .null, .null, .null, .null, .int 0, .int 0], aI G a1 40 (fun _ => 0), aI G a2 40 (fun _ => 0), aI G a3 40 (fun _ => 0), aI G a4 40 (fun _ => 0), aI G a5 160 (fun _ => 0), aI G a6 160 (fun _ => 0), aZ G a7 64 (fun _ => 0)]) H locs := hw1
  refine lv_aload_n hx hb d_M_init_67 rfl (lv_at hl 0 rfl) ?_
  refine lv_bipush (v := nI 96) hx hb d_M_init_68 (by decide) ?_
  refine r_newI hx hb hts hK hA hw (by omega) (by omega) (by omega) d_M_init_70 (fun a8 H hw1 => ?_)
  replace hw : WW G A zs ([oM h0 [.int 0, .int 0, .int 0, .int (nI 1), .int 0, .int 0, .ref a1, .ref a2, .ref a3, .ref a4, .ref a5, .ref a6, .ref a7, .null, .int 0, .int 0, .int 0, .int 0, .int 0, .int 0, .int 0, .int 0, .null, .null, .null, .null, .null, .null, .null, .null, .null, .null, .int 0, .int 0], aI G a1 40 (fun _ => 0), aI G a2 40 (fun _ => 0), aI G a3 40 (fun _ => 0), aI G a4 40 (fun _ => 0), aI G a5 160 (fun _ => 0), aI G a6 160 (fun _ => 0), aZ G a7 64 (fun _ => 0), aI G a8 96 (fun _ => 0)]) H locs := hw1
  refine p_M_36 hx hb hts hown hin hK hw 0 rfl (Nat.le_of_ble_eq_true rfl) d_M_init_72 (fun H locs hw1 => ?_)
  replace hw : WW G A zs ([oM h0 [.int 0, .int 0, .int 0, .int (nI 1), .int 0, .int 0, .ref a1, .ref a2, .ref a3, .ref a4, .ref a5, .ref a6, .ref a7, .ref a8, .int 0, .int 0, .int 0, .int 0, .int 0, .int 0, .int 0, .int 0, .null, .null, .null, .null, .null, .null, .null, .null, .null, .null, .int 0, .int 0], aI G a1 40 (fun _ => 0), aI G a2 40 (fun _ => 0), aI G a3 40 (fun _ => 0), aI G a4 40 (fun _ => 0), aI G a5 160 (fun _ => 0), aI G a6 160 (fun _ => 0), aZ G a7 64 (fun _ => 0), aI G a8 96 (fun _ => 0)]) H locs := hw1
  refine lv_aload_n hx hb d_M_init_75 rfl (lv_at hl 0 rfl) ?_
  refine lv_ldc (v := nI 98304) hx hb hown (hts _ tm_468) d_M_init_76 ?_
  refine r_newI hx hb hts hK hA hw (by omega) (by omega) (by omega) d_M_init_78 (fun a9 H hw1 => ?_)
  replace hw : WW G A zs ([oM h0 [.int 0, .int 0, .int 0, .int (nI 1), .int 0, .int 0, .ref a1, .ref a2, .ref a3, .ref a4, .ref a5, .ref a6, .ref a7, .ref a8, .int 0, .int 0, .int 0, .int 0, .int 0, .int 0, .int 0, .int 0, .null, .null, .null, .null, .null, .null, .null, .null, .null, .null, .int 0, .int 0], aI G a1 40 (fun _ => 0), aI G a2 40 (fun _ => 0), aI G a3 40 (fun _ => 0), aI G a4 40 (fun _ => 0), aI G a5 160 (fun _ => 0), aI G a6 160 (fun _ => 0), aZ G a7 64 (fun _ => 0), aI G a8 96 (fun _ => 0), aI G a9 98304 (fun _ => 0)]) H locs := hw1
  refine p_M_40 hx hb hts hown hin hK hw 0 rfl (Nat.le_of_ble_eq_true rfl) d_M_init_80 (fun H locs hw1 => ?_)
  replace hw : WW G A zs ([oM h0 [.int 0, .int 0, .int 0, .int (nI 1), .int 0, .int 0, .ref a1, .ref a2, .ref a3, .ref a4, .ref a5, .ref a6, .ref a7, .ref a8, .int 0, .int 0, .int 0, .int 0, .int 0, .int 0, .int 0, .int 0, .ref a9, .null, .null, .null, .null, .null, .null, .null, .null, .null, .int 0, .int 0], aI G a1 40 (fun _ => 0), aI G a2 40 (fun _ => 0), aI G a3 40 (fun _ => 0), aI G a4 40 (fun _ => 0), aI G a5 160 (fun _ => 0), aI G a6 160 (fun _ => 0), aZ G a7 64 (fun _ => 0), aI G a8 96 (fun _ => 0), aI G a9 98304 (fun _ => 0)]) H locs := hw1
  refine lv_aload_n hx hb d_M_init_83 rfl (lv_at hl 0 rfl) ?_
  refine lv_sipush (v := nI 8192) hx hb d_M_init_84 (by decide) ?_
  refine r_newI hx hb hts hK hA hw (by omega) (by omega) (by omega) d_M_init_87 (fun a10 H hw1 => ?_)
  replace hw : WW G A zs ([oM h0 [.int 0, .int 0, .int 0, .int (nI 1), .int 0, .int 0, .ref a1, .ref a2, .ref a3, .ref a4, .ref a5, .ref a6, .ref a7, .ref a8, .int 0, .int 0, .int 0, .int 0, .int 0, .int 0, .int 0, .int 0, .ref a9, .null, .null, .null, .null, .null, .null, .null, .null, .null, .int 0, .int 0], aI G a1 40 (fun _ => 0), aI G a2 40 (fun _ => 0), aI G a3 40 (fun _ => 0), aI G a4 40 (fun _ => 0), aI G a5 160 (fun _ => 0), aI G a6 160 (fun _ => 0), aZ G a7 64 (fun _ => 0), aI G a8 96 (fun _ => 0), aI G a9 98304 (fun _ => 0), aI G a10 8192 (fun _ => 0)]) H locs := hw1
  refine p_M_43 hx hb hts hown hin hK hw 0 rfl (Nat.le_of_ble_eq_true rfl) d_M_init_89 (fun H locs hw1 => ?_)
  replace hw : WW G A zs ([oM h0 [.int 0, .int 0, .int 0, .int (nI 1), .int 0, .int 0, .ref a1, .ref a2, .ref a3, .ref a4, .ref a5, .ref a6, .ref a7, .ref a8, .int 0, .int 0, .int 0, .int 0, .int 0, .int 0, .int 0, .int 0, .ref a9, .ref a10, .null, .null, .null, .null, .null, .null, .null, .null, .int 0, .int 0], aI G a1 40 (fun _ => 0), aI G a2 40 (fun _ => 0), aI G a3 40 (fun _ => 0), aI G a4 40 (fun _ => 0), aI G a5 160 (fun _ => 0), aI G a6 160 (fun _ => 0), aZ G a7 64 (fun _ => 0), aI G a8 96 (fun _ => 0), aI G a9 98304 (fun _ => 0), aI G a10 8192 (fun _ => 0)]) H locs := hw1
  refine lv_aload_n hx hb d_M_init_92 rfl (lv_at hl 0 rfl) ?_
  refine lv_sipush (v := nI 8192) hx hb d_M_init_93 (by decide) ?_
  refine r_newI hx hb hts hK hA hw (by omega) (by omega) (by omega) d_M_init_96 (fun a11 H hw1 => ?_)
  replace hw : WW G A zs ([oM h0 [.int 0, .int 0, .int 0, .int (nI 1), .int 0, .int 0, .ref a1, .ref a2, .ref a3, .ref a4, .ref a5, .ref a6, .ref a7, .ref a8, .int 0, .int 0, .int 0, .int 0, .int 0, .int 0, .int 0, .int 0, .ref a9, .ref a10, .null, .null, .null, .null, .null, .null, .null, .null, .int 0, .int 0], aI G a1 40 (fun _ => 0), aI G a2 40 (fun _ => 0), aI G a3 40 (fun _ => 0), aI G a4 40 (fun _ => 0), aI G a5 160 (fun _ => 0), aI G a6 160 (fun _ => 0), aZ G a7 64 (fun _ => 0), aI G a8 96 (fun _ => 0), aI G a9 98304 (fun _ => 0), aI G a10 8192 (fun _ => 0), aI G a11 8192 (fun _ => 0)]) H locs := hw1
  refine p_M_46 hx hb hts hown hin hK hw 0 rfl (Nat.le_of_ble_eq_true rfl) d_M_init_98 (fun H locs hw1 => ?_)
  replace hw : WW G A zs ([oM h0 [.int 0, .int 0, .int 0, .int (nI 1), .int 0, .int 0, .ref a1, .ref a2, .ref a3, .ref a4, .ref a5, .ref a6, .ref a7, .ref a8, .int 0, .int 0, .int 0, .int 0, .int 0, .int 0, .int 0, .int 0, .ref a9, .ref a10, .ref a11, .null, .null, .null, .null, .null, .null, .null, .int 0, .int 0], aI G a1 40 (fun _ => 0), aI G a2 40 (fun _ => 0), aI G a3 40 (fun _ => 0), aI G a4 40 (fun _ => 0), aI G a5 160 (fun _ => 0), aI G a6 160 (fun _ => 0), aZ G a7 64 (fun _ => 0), aI G a8 96 (fun _ => 0), aI G a9 98304 (fun _ => 0), aI G a10 8192 (fun _ => 0), aI G a11 8192 (fun _ => 0)]) H locs := hw1
  refine lv_aload_n hx hb d_M_init_101 rfl (lv_at hl 0 rfl) ?_
  refine lv_sipush (v := nI 8192) hx hb d_M_init_102 (by decide) ?_
  refine r_newI hx hb hts hK hA hw (by omega) (by omega) (by omega) d_M_init_105 (fun a12 H hw1 => ?_)
  replace hw : WW G A zs ([oM h0 [.int 0, .int 0, .int 0, .int (nI 1), .int 0, .int 0, .ref a1, .ref a2, .ref a3, .ref a4, .ref a5, .ref a6, .ref a7, .ref a8, .int 0, .int 0, .int 0, .int 0, .int 0, .int 0, .int 0, .int 0, .ref a9, .ref a10, .ref a11, .null, .null, .null, .null, .null, .null, .null, .int 0, .int 0], aI G a1 40 (fun _ => 0), aI G a2 40 (fun _ => 0), aI G a3 40 (fun _ => 0), aI G a4 40 (fun _ => 0), aI G a5 160 (fun _ => 0), aI G a6 160 (fun _ => 0), aZ G a7 64 (fun _ => 0), aI G a8 96 (fun _ => 0), aI G a9 98304 (fun _ => 0), aI G a10 8192 (fun _ => 0), aI G a11 8192 (fun _ => 0), aI G a12 8192 (fun _ => 0)]) H locs := hw1
  refine p_M_49 hx hb hts hown hin hK hw 0 rfl (Nat.le_of_ble_eq_true rfl) d_M_init_107 (fun H locs hw1 => ?_)
  replace hw : WW G A zs ([oM h0 [.int 0, .int 0, .int 0, .int (nI 1), .int 0, .int 0, .ref a1, .ref a2, .ref a3, .ref a4, .ref a5, .ref a6, .ref a7, .ref a8, .int 0, .int 0, .int 0, .int 0, .int 0, .int 0, .int 0, .int 0, .ref a9, .ref a10, .ref a11, .ref a12, .null, .null, .null, .null, .null, .null, .int 0, .int 0], aI G a1 40 (fun _ => 0), aI G a2 40 (fun _ => 0), aI G a3 40 (fun _ => 0), aI G a4 40 (fun _ => 0), aI G a5 160 (fun _ => 0), aI G a6 160 (fun _ => 0), aZ G a7 64 (fun _ => 0), aI G a8 96 (fun _ => 0), aI G a9 98304 (fun _ => 0), aI G a10 8192 (fun _ => 0), aI G a11 8192 (fun _ => 0), aI G a12 8192 (fun _ => 0)]) H locs := hw1
  refine lv_aload_n hx hb d_M_init_110 rfl (lv_at hl 0 rfl) ?_
  refine lv_sipush (v := nI 8192) hx hb d_M_init_111 (by decide) ?_
  refine r_newI hx hb hts hK hA hw (by omega) (by omega) (by omega) d_M_init_114 (fun a13 H hw1 => ?_)
  replace hw : WW G A zs ([oM h0 [.int 0, .int 0, .int 0, .int (nI 1), .int 0, .int 0, .ref a1, .ref a2, .ref a3, .ref a4, .ref a5, .ref a6, .ref a7, .ref a8, .int 0, .int 0, .int 0, .int 0, .int 0, .int 0, .int 0, .int 0, .ref a9, .ref a10, .ref a11, .ref a12, .null, .null, .null, .null, .null, .null, .int 0, .int 0], aI G a1 40 (fun _ => 0), aI G a2 40 (fun _ => 0), aI G a3 40 (fun _ => 0), aI G a4 40 (fun _ => 0), aI G a5 160 (fun _ => 0), aI G a6 160 (fun _ => 0), aZ G a7 64 (fun _ => 0), aI G a8 96 (fun _ => 0), aI G a9 98304 (fun _ => 0), aI G a10 8192 (fun _ => 0), aI G a11 8192 (fun _ => 0), aI G a12 8192 (fun _ => 0), aI G a13 8192 (fun _ => 0)]) H locs := hw1
  refine p_M_52 hx hb hts hown hin hK hw 0 rfl (Nat.le_of_ble_eq_true rfl) d_M_init_116 (fun H locs hw1 => ?_)
  replace hw : WW G A zs ([oM h0 [.int 0, .int 0, .int 0, .int (nI 1), .int 0, .int 0, .ref a1, .ref a2, .ref a3, .ref a4, .ref a5, .ref a6, .ref a7, .ref a8, .int 0, .int 0, .int 0, .int 0, .int 0, .int 0, .int 0, .int 0, .ref a9, .ref a10, .ref a11, .ref a12, .ref a13, .null, .null, .null, .null, .null, .int 0, .int 0], aI G a1 40 (fun _ => 0), aI G a2 40 (fun _ => 0), aI G a3 40 (fun _ => 0), aI G a4 40 (fun _ => 0), aI G a5 160 (fun _ => 0), aI G a6 160 (fun _ => 0), aZ G a7 64 (fun _ => 0), aI G a8 96 (fun _ => 0), aI G a9 98304 (fun _ => 0), aI G a10 8192 (fun _ => 0), aI G a11 8192 (fun _ => 0), aI G a12 8192 (fun _ => 0), aI G a13 8192 (fun _ => 0)]) H locs := hw1
  refine lv_aload_n hx hb d_M_init_119 rfl (lv_at hl 0 rfl) ?_
  refine lv_sipush (v := nI 8192) hx hb d_M_init_120 (by decide) ?_
  refine r_newI hx hb hts hK hA hw (by omega) (by omega) (by omega) d_M_init_123 (fun a14 H hw1 => ?_)
  replace hw : WW G A zs ([oM h0 [.int 0, .int 0, .int 0, .int (nI 1), .int 0, .int 0, .ref a1, .ref a2, .ref a3, .ref a4, .ref a5, .ref a6, .ref a7, .ref a8, .int 0, .int 0, .int 0, .int 0, .int 0, .int 0, .int 0, .int 0, .ref a9, .ref a10, .ref a11, .ref a12, .ref a13, .null, .null, .null, .null, .null, .int 0, .int 0], aI G a1 40 (fun _ => 0), aI G a2 40 (fun _ => 0), aI G a3 40 (fun _ => 0), aI G a4 40 (fun _ => 0), aI G a5 160 (fun _ => 0), aI G a6 160 (fun _ => 0), aZ G a7 64 (fun _ => 0), aI G a8 96 (fun _ => 0), aI G a9 98304 (fun _ => 0), aI G a10 8192 (fun _ => 0), aI G a11 8192 (fun _ => 0), aI G a12 8192 (fun _ => 0), aI G a13 8192 (fun _ => 0), aI G a14 8192 (fun _ => 0)]) H locs := hw1
  refine p_M_55 hx hb hts hown hin hK hw 0 rfl (Nat.le_of_ble_eq_true rfl) d_M_init_125 (fun H locs hw1 => ?_)
  replace hw : WW G A zs ([oM h0 [.int 0, .int 0, .int 0, .int (nI 1), .int 0, .int 0, .ref a1, .ref a2, .ref a3, .ref a4, .ref a5, .ref a6, .ref a7, .ref a8, .int 0, .int 0, .int 0, .int 0, .int 0, .int 0, .int 0, .int 0, .ref a9, .ref a10, .ref a11, .ref a12, .ref a13, .ref a14, .null, .null, .null, .null, .int 0, .int 0], aI G a1 40 (fun _ => 0), aI G a2 40 (fun _ => 0), aI G a3 40 (fun _ => 0), aI G a4 40 (fun _ => 0), aI G a5 160 (fun _ => 0), aI G a6 160 (fun _ => 0), aZ G a7 64 (fun _ => 0), aI G a8 96 (fun _ => 0), aI G a9 98304 (fun _ => 0), aI G a10 8192 (fun _ => 0), aI G a11 8192 (fun _ => 0), aI G a12 8192 (fun _ => 0), aI G a13 8192 (fun _ => 0), aI G a14 8192 (fun _ => 0)]) H locs := hw1
  refine lv_aload_n hx hb d_M_init_128 rfl (lv_at hl 0 rfl) ?_
  refine lv_sipush (v := nI 8192) hx hb d_M_init_129 (by decide) ?_
  refine r_newI hx hb hts hK hA hw (by omega) (by omega) (by omega) d_M_init_132 (fun a15 H hw1 => ?_)
  replace hw : WW G A zs ([oM h0 [.int 0, .int 0, .int 0, .int (nI 1), .int 0, .int 0, .ref a1, .ref a2, .ref a3, .ref a4, .ref a5, .ref a6, .ref a7, .ref a8, .int 0, .int 0, .int 0, .int 0, .int 0, .int 0, .int 0, .int 0, .ref a9, .ref a10, .ref a11, .ref a12, .ref a13, .ref a14, .null, .null, .null, .null, .int 0, .int 0], aI G a1 40 (fun _ => 0), aI G a2 40 (fun _ => 0), aI G a3 40 (fun _ => 0), aI G a4 40 (fun _ => 0), aI G a5 160 (fun _ => 0), aI G a6 160 (fun _ => 0), aZ G a7 64 (fun _ => 0), aI G a8 96 (fun _ => 0), aI G a9 98304 (fun _ => 0), aI G a10 8192 (fun _ => 0), aI G a11 8192 (fun _ => 0), aI G a12 8192 (fun _ => 0), aI G a13 8192 (fun _ => 0), aI G a14 8192 (fun _ => 0), aI G a15 8192 (fun _ => 0)]) H locs := hw1
  refine p_M_58 hx hb hts hown hin hK hw 0 rfl (Nat.le_of_ble_eq_true rfl) d_M_init_134 (fun H locs hw1 => ?_)
  replace hw : WW G A zs ([oM h0 [.int 0, .int 0, .int 0, .int (nI 1), .int 0, .int 0, .ref a1, .ref a2, .ref a3, .ref a4, .ref a5, .ref a6, .ref a7, .ref a8, .int 0, .int 0, .int 0, .int 0, .int 0, .int 0, .int 0, .int 0, .ref a9, .ref a10, .ref a11, .ref a12, .ref a13, .ref a14, .ref a15, .null, .null, .null, .int 0, .int 0], aI G a1 40 (fun _ => 0), aI G a2 40 (fun _ => 0), aI G a3 40 (fun _ => 0), aI G a4 40 (fun _ => 0), aI G a5 160 (fun _ => 0), aI G a6 160 (fun _ => 0), aZ G a7 64 (fun _ => 0), aI G a8 96 (fun _ => 0), aI G a9 98304 (fun _ => 0), aI G a10 8192 (fun _ => 0), aI G a11 8192 (fun _ => 0), aI G a12 8192 (fun _ => 0), aI G a13 8192 (fun _ => 0), aI G a14 8192 (fun _ => 0), aI G a15 8192 (fun _ => 0)]) H locs := hw1
  refine lv_aload_n hx hb d_M_init_137 rfl (lv_at hl 0 rfl) ?_
  refine lv_bipush (v := nI 12) hx hb d_M_init_138 (by decide) ?_
  refine r_newI hx hb hts hK hA hw (by omega) (by omega) (by omega) d_M_init_140 (fun a16 H hw1 => ?_)
  replace hw : WW G A zs ([oM h0 [.int 0, .int 0, .int 0, .int (nI 1), .int 0, .int 0, .ref a1, .ref a2, .ref a3, .ref a4, .ref a5, .ref a6, .ref a7, .ref a8, .int 0, .int 0, .int 0, .int 0, .int 0, .int 0, .int 0, .int 0, .ref a9, .ref a10, .ref a11, .ref a12, .ref a13, .ref a14, .ref a15, .null, .null, .null, .int 0, .int 0], aI G a1 40 (fun _ => 0), aI G a2 40 (fun _ => 0), aI G a3 40 (fun _ => 0), aI G a4 40 (fun _ => 0), aI G a5 160 (fun _ => 0), aI G a6 160 (fun _ => 0), aZ G a7 64 (fun _ => 0), aI G a8 96 (fun _ => 0), aI G a9 98304 (fun _ => 0), aI G a10 8192 (fun _ => 0), aI G a11 8192 (fun _ => 0), aI G a12 8192 (fun _ => 0), aI G a13 8192 (fun _ => 0), aI G a14 8192 (fun _ => 0), aI G a15 8192 (fun _ => 0), aI G a16 12 (fun _ => 0)]) H locs := hw1
  refine p_M_61 hx hb hts hown hin hK hw 0 rfl (Nat.le_of_ble_eq_true rfl) d_M_init_142 (fun H locs hw1 => ?_)
  replace hw : WW G A zs ([oM h0 [.int 0, .int 0, .int 0, .int (nI 1), .int 0, .int 0, .ref a1, .ref a2, .ref a3, .ref a4, .ref a5, .ref a6, .ref a7, .ref a8, .int 0, .int 0, .int 0, .int 0, .int 0, .int 0, .int 0, .int 0, .ref a9, .ref a10, .ref a11, .ref a12, .ref a13, .ref a14, .ref a15, .ref a16, .null, .null, .int 0, .int 0], aI G a1 40 (fun _ => 0), aI G a2 40 (fun _ => 0), aI G a3 40 (fun _ => 0), aI G a4 40 (fun _ => 0), aI G a5 160 (fun _ => 0), aI G a6 160 (fun _ => 0), aZ G a7 64 (fun _ => 0), aI G a8 96 (fun _ => 0), aI G a9 98304 (fun _ => 0), aI G a10 8192 (fun _ => 0), aI G a11 8192 (fun _ => 0), aI G a12 8192 (fun _ => 0), aI G a13 8192 (fun _ => 0), aI G a14 8192 (fun _ => 0), aI G a15 8192 (fun _ => 0), aI G a16 12 (fun _ => 0)]) H locs := hw1
  refine lv_aload_n hx hb d_M_init_145 rfl (lv_at hl 0 rfl) ?_
  refine lv_bipush (v := nI 12) hx hb d_M_init_146 (by decide) ?_
  refine r_newI hx hb hts hK hA hw (by omega) (by omega) (by omega) d_M_init_148 (fun a17 H hw1 => ?_)
  replace hw : WW G A zs ([oM h0 [.int 0, .int 0, .int 0, .int (nI 1), .int 0, .int 0, .ref a1, .ref a2, .ref a3, .ref a4, .ref a5, .ref a6, .ref a7, .ref a8, .int 0, .int 0, .int 0, .int 0, .int 0, .int 0, .int 0, .int 0, .ref a9, .ref a10, .ref a11, .ref a12, .ref a13, .ref a14, .ref a15, .ref a16, .null, .null, .int 0, .int 0], aI G a1 40 (fun _ => 0), aI G a2 40 (fun _ => 0), aI G a3 40 (fun _ => 0), aI G a4 40 (fun _ => 0), aI G a5 160 (fun _ => 0), aI G a6 160 (fun _ => 0), aZ G a7 64 (fun _ => 0), aI G a8 96 (fun _ => 0), aI G a9 98304 (fun _ => 0), aI G a10 8192 (fun _ => 0), aI G a11 8192 (fun _ => 0), aI G a12 8192 (fun _ => 0), aI G a13 8192 (fun _ => 0), aI G a14 8192 (fun _ => 0), aI G a15 8192 (fun _ => 0), aI G a16 12 (fun _ => 0), aI G a17 12 (fun _ => 0)]) H locs := hw1
  refine p_M_64 hx hb hts hown hin hK hw 0 rfl (Nat.le_of_ble_eq_true rfl) d_M_init_150 (fun H locs hw1 => ?_)
  replace hw : WW G A zs ([oM h0 [.int 0, .int 0, .int 0, .int (nI 1), .int 0, .int 0, .ref a1, .ref a2, .ref a3, .ref a4, .ref a5, .ref a6, .ref a7, .ref a8, .int 0, .int 0, .int 0, .int 0, .int 0, .int 0, .int 0, .int 0, .ref a9, .ref a10, .ref a11, .ref a12, .ref a13, .ref a14, .ref a15, .ref a16, .ref a17, .null, .int 0, .int 0], aI G a1 40 (fun _ => 0), aI G a2 40 (fun _ => 0), aI G a3 40 (fun _ => 0), aI G a4 40 (fun _ => 0), aI G a5 160 (fun _ => 0), aI G a6 160 (fun _ => 0), aZ G a7 64 (fun _ => 0), aI G a8 96 (fun _ => 0), aI G a9 98304 (fun _ => 0), aI G a10 8192 (fun _ => 0), aI G a11 8192 (fun _ => 0), aI G a12 8192 (fun _ => 0), aI G a13 8192 (fun _ => 0), aI G a14 8192 (fun _ => 0), aI G a15 8192 (fun _ => 0), aI G a16 12 (fun _ => 0), aI G a17 12 (fun _ => 0)]) H locs := hw1
  refine lv_aload_n hx hb d_M_init_153 rfl (lv_at hl 0 rfl) ?_
  refine lv_bipush (v := nI 12) hx hb d_M_init_154 (by decide) ?_
  refine r_newI hx hb hts hK hA hw (by omega) (by omega) (by omega) d_M_init_156 (fun a18 H hw1 => ?_)
  replace hw : WW G A zs ([oM h0 [.int 0, .int 0, .int 0, .int (nI 1), .int 0, .int 0, .ref a1, .ref a2, .ref a3, .ref a4, .ref a5, .ref a6, .ref a7, .ref a8, .int 0, .int 0, .int 0, .int 0, .int 0, .int 0, .int 0, .int 0, .ref a9, .ref a10, .ref a11, .ref a12, .ref a13, .ref a14, .ref a15, .ref a16, .ref a17, .null, .int 0, .int 0], aI G a1 40 (fun _ => 0), aI G a2 40 (fun _ => 0), aI G a3 40 (fun _ => 0), aI G a4 40 (fun _ => 0), aI G a5 160 (fun _ => 0), aI G a6 160 (fun _ => 0), aZ G a7 64 (fun _ => 0), aI G a8 96 (fun _ => 0), aI G a9 98304 (fun _ => 0), aI G a10 8192 (fun _ => 0), aI G a11 8192 (fun _ => 0), aI G a12 8192 (fun _ => 0), aI G a13 8192 (fun _ => 0), aI G a14 8192 (fun _ => 0), aI G a15 8192 (fun _ => 0), aI G a16 12 (fun _ => 0), aI G a17 12 (fun _ => 0), aI G a18 12 (fun _ => 0)]) H locs := hw1
  refine p_M_67 hx hb hts hown hin hK hw 0 rfl (Nat.le_of_ble_eq_true rfl) d_M_init_158 (fun H locs hw1 => ?_)
  replace hw : WW G A zs ([oM h0 [.int 0, .int 0, .int 0, .int (nI 1), .int 0, .int 0, .ref a1, .ref a2, .ref a3, .ref a4, .ref a5, .ref a6, .ref a7, .ref a8, .int 0, .int 0, .int 0, .int 0, .int 0, .int 0, .int 0, .int 0, .ref a9, .ref a10, .ref a11, .ref a12, .ref a13, .ref a14, .ref a15, .ref a16, .ref a17, .ref a18, .int 0, .int 0], aI G a1 40 (fun _ => 0), aI G a2 40 (fun _ => 0), aI G a3 40 (fun _ => 0), aI G a4 40 (fun _ => 0), aI G a5 160 (fun _ => 0), aI G a6 160 (fun _ => 0), aZ G a7 64 (fun _ => 0), aI G a8 96 (fun _ => 0), aI G a9 98304 (fun _ => 0), aI G a10 8192 (fun _ => 0), aI G a11 8192 (fun _ => 0), aI G a12 8192 (fun _ => 0), aI G a13 8192 (fun _ => 0), aI G a14 8192 (fun _ => 0), aI G a15 8192 (fun _ => 0), aI G a16 12 (fun _ => 0), aI G a17 12 (fun _ => 0), aI G a18 12 (fun _ => 0)]) H locs := hw1
  refine lv_aload_n hx hb d_M_init_161 rfl (lv_at hl 0 rfl) ?_
  refine lv_iconst (v := nI 1) hx hb d_M_init_162 rfl ?_
  refine lv_iload_n hx hb d_M_init_163 rfl (lv_at hl 1 rfl) ?_
  refine lv_iconst (v := nI 1) hx hb d_M_init_164 rfl ?_
  refine lv_isub hx hb d_M_init_165 ?_
  refine lv_iconst (v := nI 3) hx hb d_M_init_166 rfl ?_
  refine lv_iand hx hb d_M_init_167 ?_
  refine r_eq (show (x - (nI 1)) &&& (nI 3) = nI (n - 1) from hn0) ?_
  refine r_iaddN hx hb d_M_init_168 ?_
  refine r_eq (show nI (1 + (n - 1)) = nI n from congrArg nI (by omega)) ?_
  refine p_M_70 hx hb hts hown hin hK hw 0 rfl (Nat.le_of_ble_eq_true rfl) d_M_init_169 (fun H locs hw1 => ?_)
  replace hw : WW G A zs ([oM h0 [.int 0, .int (nI n), .int 0, .int (nI 1), .int 0, .int 0, .ref a1, .ref a2, .ref a3, .ref a4, .ref a5, .ref a6, .ref a7, .ref a8, .int 0, .int 0, .int 0, .int 0, .int 0, .int 0, .int 0, .int 0, .ref a9, .ref a10, .ref a11, .ref a12, .ref a13, .ref a14, .ref a15, .ref a16, .ref a17, .ref a18, .int 0, .int 0], aI G a1 40 (fun _ => 0), aI G a2 40 (fun _ => 0), aI G a3 40 (fun _ => 0), aI G a4 40 (fun _ => 0), aI G a5 160 (fun _ => 0), aI G a6 160 (fun _ => 0), aZ G a7 64 (fun _ => 0), aI G a8 96 (fun _ => 0), aI G a9 98304 (fun _ => 0), aI G a10 8192 (fun _ => 0), aI G a11 8192 (fun _ => 0), aI G a12 8192 (fun _ => 0), aI G a13 8192 (fun _ => 0), aI G a14 8192 (fun _ => 0), aI G a15 8192 (fun _ => 0), aI G a16 12 (fun _ => 0), aI G a17 12 (fun _ => 0), aI G a18 12 (fun _ => 0)]) H locs := hw1
  refine lv_aload_n hx hb d_M_init_172 rfl (lv_at hl 0 rfl) ?_
  refine lv_iconst (v := nI 1) hx hb d_M_init_173 rfl ?_
  refine lv_iload_n hx hb d_M_init_174 rfl (lv_at hl 2 rfl) ?_
  refine lv_iconst (v := nI 1) hx hb d_M_init_175 rfl ?_
  refine lv_isub hx hb d_M_init_176 ?_
  refine lv_sipush (v := nI 8191) hx hb d_M_init_177 (by decide) ?_
  refine lv_iand hx hb d_M_init_180 ?_
  refine r_eq (show (z - (nI 1)) &&& (nI 8191) = nI (room - 1) from hr0) ?_
  refine r_iaddN hx hb d_M_init_181 ?_
  refine r_eq (show nI (1 + (room - 1)) = nI room from congrArg nI (by omega)) ?_
  refine p_M_73 hx hb hts hown hin hK hw 0 rfl (Nat.le_of_ble_eq_true rfl) d_M_init_182 (fun H locs hw1 => ?_)
  replace hw : WW G A zs ([oM h0 [.int 0, .int (nI n), .int (nI room), .int (nI 1), .int 0, .int 0, .ref a1, .ref a2, .ref a3, .ref a4, .ref a5, .ref a6, .ref a7, .ref a8, .int 0, .int 0, .int 0, .int 0, .int 0, .int 0, .int 0, .int 0, .ref a9, .ref a10, .ref a11, .ref a12, .ref a13, .ref a14, .ref a15, .ref a16, .ref a17, .ref a18, .int 0, .int 0], aI G a1 40 (fun _ => 0), aI G a2 40 (fun _ => 0), aI G a3 40 (fun _ => 0), aI G a4 40 (fun _ => 0), aI G a5 160 (fun _ => 0), aI G a6 160 (fun _ => 0), aZ G a7 64 (fun _ => 0), aI G a8 96 (fun _ => 0), aI G a9 98304 (fun _ => 0), aI G a10 8192 (fun _ => 0), aI G a11 8192 (fun _ => 0), aI G a12 8192 (fun _ => 0), aI G a13 8192 (fun _ => 0), aI G a14 8192 (fun _ => 0), aI G a15 8192 (fun _ => 0), aI G a16 12 (fun _ => 0), aI G a17 12 (fun _ => 0), aI G a18 12 (fun _ => 0)]) H locs := hw1
  refine lv_iconst (v := nI 0) hx hb d_M_init_185 rfl ?_
  refine lv_istore_n (lv' := [(3, .int (nI 0)), (0, .ref h0), (1, .int x), (2, .int z)]) hx hb d_M_init_186 rfl hl (by decide) rfl (fun ls hl => ?_)
  have Lp187 : ∀ N_187 : Nat, ∀ (k : Nat) (fn : Nat → Int32), (k ≤ 256) → (NumI n (PMk n k) fn) → 256 - k < N_187 → ∀ (H : Heap) (locs : List Loc) (ls : Array Slot), lv_has ls 6 [(0, .ref h0), (3, .int (nI k))] → WW G A zs ([oM h0 [.int 0, .int (nI n), .int (nI room), .int (nI 1), .int 0, .int 0, .ref a1, .ref a2, .ref a3, .ref a4, .ref a5, .ref a6, .ref a7, .ref a8, .int (nI ((PMk n k).length)), .int 0, .int 0, .int 0, .int 0, .int 0, .int 0, .int 0, .ref a9, .ref a10, .ref a11, .ref a12, .ref a13, .ref a14, .ref a15, .ref a16, .ref a17, .ref a18, .int 0, .int 0], aI G a1 40 (fun _ => 0), aI G a2 40 (fun _ => 0), aI G a3 40 (fun _ => 0), aI G a4 40 (fun _ => 0), aI G a5 160 (fun _ => 0), aI G a6 160 (fun _ => 0), aZ G a7 64 (fun _ => 0), aI G a8 96 fn, aI G a9 98304 (fun _ => 0), aI G a10 8192 (fun _ => 0), aI G a11 8192 (fun _ => 0), aI G a12 8192 (fun _ => 0), aI G a13 8192 (fun _ => 0), aI G a14 8192 (fun _ => 0), aI G a15 8192 (fun _ => 0), aI G a16 12 (fun _ => 0), aI G a17 12 (fun _ => 0), aI G a18 12 (fun _ => 0)]) H locs → W zp zl ze R zs zm args below meth zc H locs (0 + 1 + 1 + 1 + 1 + 1 + 1 + 1 + 1 + 1 + 1 + 1 + 1 + 1 + 1 + 1 + 1 + 1 + 1) (0 + 40 + 40 + 40 + 40 + 160 + 160 + 64 + 96 + 98304 + 8192 + 8192 + 8192 + 8192 + 8192 + 8192 + 12 + 12 + 12) Q (F0 zm 187 ls []) := by
    intro N_187
    induction N_187 with
    | zero => intros; omega
    | succ N_187 ih_187 =>
      intro k fn hk hfn hN_187 H locs ls hl hw
      have hp24 := PMk_24 hn4 hk
      refine lv_iload_n hx hb d_M_init_187 rfl (lv_at hl 1 rfl) ?_
      refine lv_sipush (v := nI 256) hx hb d_M_init_188 (by decide) ?_
      refine r_icmp_ge (tgt := 313) hx hb (by omega) (by omega) d_M_init_191 (by decide) (fun c_191 => ?_) (fun c_191 => ?_)
      · skip
        rw [show k = 256 by omega] at hw
        exact r_ret hQ (r_vret (va_up (va_up (va_up (va_up (va_up (va_up (va_up (va_up (va_up (va_up (va_up (va_up (va_up (va_up (va_up (va_up (va_up (va_up (fun _ => h0) 1 (a1)) 2 (a2)) 3 (a3)) 4 (a4)) 5 (a5)) 6 (a6)) 7 (a7)) 8 (a8)) 9 (a9)) 10 (a10)) 11 (a11)) 12 (a12)) 13 (a13)) 14 (a14)) 15 (a15)) 16 (a16)) 17 (a17)) 18 (a18), va_up (fun _ _ => 0) 8 fn) hx hb hr hlk hw (⟨fun _ h => if_neg h, by have hz := hfn; rw [show k = 256 by omega] at hz; exact hz⟩) (by omega) (by omega) d_M_init_313)
      · skip
        refine lv_iconst (v := nI 0) hx hb d_M_init_194 rfl ?_
        refine lv_istore (lv' := [(4, .int (nI 0)), (0, .ref h0), (3, .int (nI k))]) hx hb d_M_init_195 hl (by decide) rfl (fun ls hl => ?_)
        refine lv_iconst (v := nI 0) hx hb d_M_init_197 rfl ?_
        refine lv_istore (lv' := [(5, .int (nI 0)), (4, .int (nI 0)), (0, .ref h0), (3, .int (nI k))]) hx hb d_M_init_198 hl (by decide) rfl (fun ls hl => ?_)
        have Lp200 : ∀ N_200 : Nat, ∀ (i : Nat), (i ≤ n) → n - i < N_200 → ∀ (H : Heap) (locs : List Loc) (ls : Array Slot), lv_has ls 6 [(0, .ref h0), (3, .int (nI k)), (4, .int (nI (seM k i))), (5, .int (nI i))] → WW G A zs ([oM h0 [.int 0, .int (nI n), .int (nI room), .int (nI 1), .int 0, .int 0, .ref a1, .ref a2, .ref a3, .ref a4, .ref a5, .ref a6, .ref a7, .ref a8, .int (nI ((PMk n k).length)), .int 0, .int 0, .int 0, .int 0, .int 0, .int 0, .int 0, .ref a9, .ref a10, .ref a11, .ref a12, .ref a13, .ref a14, .ref a15, .ref a16, .ref a17, .ref a18, .int 0, .int 0], aI G a1 40 (fun _ => 0), aI G a2 40 (fun _ => 0), aI G a3 40 (fun _ => 0), aI G a4 40 (fun _ => 0), aI G a5 160 (fun _ => 0), aI G a6 160 (fun _ => 0), aZ G a7 64 (fun _ => 0), aI G a8 96 fn, aI G a9 98304 (fun _ => 0), aI G a10 8192 (fun _ => 0), aI G a11 8192 (fun _ => 0), aI G a12 8192 (fun _ => 0), aI G a13 8192 (fun _ => 0), aI G a14 8192 (fun _ => 0), aI G a15 8192 (fun _ => 0), aI G a16 12 (fun _ => 0), aI G a17 12 (fun _ => 0), aI G a18 12 (fun _ => 0)]) H locs → W zp zl ze R zs zm args below meth zc H locs (0 + 1 + 1 + 1 + 1 + 1 + 1 + 1 + 1 + 1 + 1 + 1 + 1 + 1 + 1 + 1 + 1 + 1 + 1) (0 + 40 + 40 + 40 + 40 + 160 + 160 + 64 + 96 + 98304 + 8192 + 8192 + 8192 + 8192 + 8192 + 8192 + 12 + 12 + 12) Q (F0 zm 200 ls []) := by
          intro N_200
          induction N_200 with
          | zero => intros; omega
          | succ N_200 ih_200 =>
            intro i hi hN_200 H locs ls hl hw
            have hse := seM_lt k i
            have hpw9 := pw4 (k / 2 ^ (2 * i))
            refine lv_iload hx hb d_M_init_200 (lv_at hl 3 rfl) ?_
            refine lv_aload_n hx hb d_M_init_202 rfl (lv_at hl 0 rfl) ?_
            refine g_M_70 hx hb hts hown hK hw 0 rfl rfl d_M_init_203 ?_
            refine r_icmp_ge (tgt := 230) hx hb (by omega) (by omega) d_M_init_206 (by decide) (fun c_206 => ?_) (fun c_206 => ?_)
            · skip
              refine lv_iload hx hb d_M_init_230 (lv_at hl 2 rfl) ?_
              refine lv_iconst (v := nI 1) hx hb d_M_init_232 rfl ?_
              refine lv_aload_n hx hb d_M_init_233 rfl (lv_at hl 0 rfl) ?_
              refine g_M_70 hx hb hts hown hK hw 0 rfl rfl d_M_init_234 ?_
              refine r_ishlN hx hb (k := n) (by omega) (by omega) d_M_init_237 ?_
              refine lv_iconst (v := nI 1) hx hb d_M_init_238 rfl ?_
              refine r_isubN hx hb (by omega) d_M_init_239 ?_
              refine r_icmp_ne (tgt := 307) hx hb (by omega) (by omega) d_M_init_240 (by decide) (fun c_240 => ?_) (fun c_240 => ?_)
              · skip
                have hi9 : i = n := by omega
                rw [hi9] at c_240
                have hsk := okM_f1 c_240
                refine r_iincN (n := 1) (lv' := [(3, .int (nI (k + 1))), (0, .ref h0), (4, .int (nI (seM k i))), (5, .int (nI i))]) hx hb d_M_init_307 hl (k := 1) rfl (by decide) rfl (fun ls hl => ?_)
                refine lv_goto (tgt := 187) hx hb d_M_init_310 (by decide) ?_
                rw [show (PMk n k).length = (PMk n (k + 1)).length by rw [PMk_skip hsk]] at hw
                exact ih_187 (k + 1) fn (by omega) (by rw [PMk_skip hsk]; exact hfn) (by omega) _ _ _ (lv_sub hl [1, 0] rfl) hw
              · skip
                refine lv_iload_n hx hb d_M_init_243 rfl (lv_at hl 1 rfl) ?_
                refine lv_iconst (v := nI 2) hx hb d_M_init_244 rfl ?_
                refine lv_aload_n hx hb d_M_init_245 rfl (lv_at hl 0 rfl) ?_
                refine g_M_70 hx hb hts hown hK hw 0 rfl rfl d_M_init_246 ?_
                refine r_imulN hx hb d_M_init_249 ?_
                refine r_ishrN hx hb (k := (2 * n)) (by omega) (by omega) d_M_init_250 ?_
                refine r_if_le (tgt := 257) hx hb (Nat.lt_of_le_of_lt (Nat.div_le_self _ _) (by omega)) d_M_init_251 (by decide) (fun c_251 => ?_) (fun c_251 => ?_)
                · skip
                  have hok9 := okM_t (n := n) (k := k) (by rw [← c_240, show i = n by omega]) (by omega)
                  have hp25 := PMk_24 (k := k + 1) hn4 (by omega)
                  rw [PMk_add hok9, List.length_append, List.length_singleton] at hp25
                  refine lv_iconst (v := nI 0) hx hb d_M_init_257 rfl ?_
                  refine lv_istore (lv' := [(5, .int (nI 0)), (0, .ref h0), (3, .int (nI k)), (4, .int (nI (seM k i)))]) hx hb d_M_init_258 hl (by decide) rfl (fun ls hl => ?_)
                  have Lp260 : ∀ N_260 : Nat, ∀ (i : Nat) (fn : Nat → Int32), (i ≤ n) → (NumI n (PMk n k) fn ∧ ∀ t, t < i → fn (4 * (PMk n k).length + t) = nI (k / 2 ^ (2 * t) % 4)) → n - i < N_260 → ∀ (H : Heap) (locs : List Loc) (ls : Array Slot), lv_has ls 6 [(0, .ref h0), (3, .int (nI k)), (5, .int (nI i))] → WW G A zs ([oM h0 [.int 0, .int (nI n), .int (nI room), .int (nI 1), .int 0, .int 0, .ref a1, .ref a2, .ref a3, .ref a4, .ref a5, .ref a6, .ref a7, .ref a8, .int (nI ((PMk n k).length)), .int 0, .int 0, .int 0, .int 0, .int 0, .int 0, .int 0, .ref a9, .ref a10, .ref a11, .ref a12, .ref a13, .ref a14, .ref a15, .ref a16, .ref a17, .ref a18, .int 0, .int 0], aI G a1 40 (fun _ => 0), aI G a2 40 (fun _ => 0), aI G a3 40 (fun _ => 0), aI G a4 40 (fun _ => 0), aI G a5 160 (fun _ => 0), aI G a6 160 (fun _ => 0), aZ G a7 64 (fun _ => 0), aI G a8 96 fn, aI G a9 98304 (fun _ => 0), aI G a10 8192 (fun _ => 0), aI G a11 8192 (fun _ => 0), aI G a12 8192 (fun _ => 0), aI G a13 8192 (fun _ => 0), aI G a14 8192 (fun _ => 0), aI G a15 8192 (fun _ => 0), aI G a16 12 (fun _ => 0), aI G a17 12 (fun _ => 0), aI G a18 12 (fun _ => 0)]) H locs → W zp zl ze R zs zm args below meth zc H locs (0 + 1 + 1 + 1 + 1 + 1 + 1 + 1 + 1 + 1 + 1 + 1 + 1 + 1 + 1 + 1 + 1 + 1 + 1) (0 + 40 + 40 + 40 + 40 + 160 + 160 + 64 + 96 + 98304 + 8192 + 8192 + 8192 + 8192 + 8192 + 8192 + 12 + 12 + 12) Q (F0 zm 260 ls []) := by
                    intro N_260
                    induction N_260 with
                    | zero => intros; omega
                    | succ N_260 ih_260 =>
                      intro i fn hi2 hfn2 hN_260 H locs ls hl hw
                      refine lv_iload hx hb d_M_init_260 (lv_at hl 2 rfl) ?_
                      refine lv_aload_n hx hb d_M_init_262 rfl (lv_at hl 0 rfl) ?_
                      refine g_M_70 hx hb hts hown hK hw 0 rfl rfl d_M_init_263 ?_
                      refine r_icmp_ge (tgt := 297) hx hb (by omega) (by omega) d_M_init_266 (by decide) (fun c_266 => ?_) (fun c_266 => ?_)
                      · skip
                        refine lv_aload_n hx hb d_M_init_297 rfl (lv_at hl 0 rfl) ?_
                        refine lv_dup hx hb d_M_init_298 rfl ?_
                        refine g_M_76 hx hb hts hown hK hw 0 rfl rfl d_M_init_299 ?_
                        refine lv_iconst (v := nI 1) hx hb d_M_init_302 rfl ?_
                        refine r_iaddN hx hb d_M_init_303 ?_
                        refine p_M_76 hx hb hts hown hK hw 0 rfl (Nat.le_of_ble_eq_true rfl) d_M_init_304 (fun H locs hw1 => ?_)
                        replace hw : WW G A zs ([oM h0 [.int 0, .int (nI n), .int (nI room), .int (nI 1), .int 0, .int 0, .ref a1, .ref a2, .ref a3, .ref a4, .ref a5, .ref a6, .ref a7, .ref a8, .int (nI (((PMk n k).length) + 1)), .int 0, .int 0, .int 0, .int 0, .int 0, .int 0, .int 0, .ref a9, .ref a10, .ref a11, .ref a12, .ref a13, .ref a14, .ref a15, .ref a16, .ref a17, .ref a18, .int 0, .int 0], aI G a1 40 (fun _ => 0), aI G a2 40 (fun _ => 0), aI G a3 40 (fun _ => 0), aI G a4 40 (fun _ => 0), aI G a5 160 (fun _ => 0), aI G a6 160 (fun _ => 0), aZ G a7 64 (fun _ => 0), aI G a8 96 fn, aI G a9 98304 (fun _ => 0), aI G a10 8192 (fun _ => 0), aI G a11 8192 (fun _ => 0), aI G a12 8192 (fun _ => 0), aI G a13 8192 (fun _ => 0), aI G a14 8192 (fun _ => 0), aI G a15 8192 (fun _ => 0), aI G a16 12 (fun _ => 0), aI G a17 12 (fun _ => 0), aI G a18 12 (fun _ => 0)]) H locs := hw1
                        refine r_iincN (n := 1) (lv' := [(3, .int (nI (k + 1))), (0, .ref h0), (5, .int (nI i))]) hx hb d_M_init_307 hl (k := 1) rfl (by decide) rfl (fun ls hl => ?_)
                        refine lv_goto (tgt := 187) hx hb d_M_init_310 (by decide) ?_
                        rw [show (PMk n k).length + 1 = (PMk n (k + 1)).length by rw [PMk_add hok9, List.length_append]; rfl] at hw
                        exact ih_187 (k + 1) fn (by omega) (by rw [PMk_add hok9]; exact hfn2.1.snoc hn4 hfn2.2 (by omega)) (by omega) _ _ _ (lv_sub hl [1, 0] rfl) hw
                      · skip
                        refine lv_aload_n hx hb d_M_init_269 rfl (lv_at hl 0 rfl) ?_
                        refine g_M_36 hx hb hts hown hK hw 0 rfl rfl d_M_init_270 ?_
                        refine lv_iconst (v := nI 4) hx hb d_M_init_273 rfl ?_
                        refine lv_aload_n hx hb d_M_init_274 rfl (lv_at hl 0 rfl) ?_
                        refine g_M_76 hx hb hts hown hK hw 0 rfl rfl d_M_init_275 ?_
                        refine r_imulN hx hb d_M_init_278 ?_
                        refine lv_iload hx hb d_M_init_279 (lv_at hl 2 rfl) ?_
                        refine r_iaddN hx hb d_M_init_281 ?_
                        refine lv_iload_n hx hb d_M_init_282 rfl (lv_at hl 1 rfl) ?_
                        refine lv_iconst (v := nI 2) hx hb d_M_init_283 rfl ?_
                        refine lv_iload hx hb d_M_init_284 (lv_at hl 2 rfl) ?_
                        refine r_imulN hx hb d_M_init_286 ?_
                        refine r_ishrN hx hb (k := (2 * i)) (by omega) (by omega) d_M_init_287 ?_
                        refine lv_iconst (v := nI 3) hx hb d_M_init_288 rfl ?_
                        refine r_iandN hx hb d_M_init_289 ?_
                        refine r_eq (show nI ((k / 2 ^ (2 * i)) &&& 3) = nI (k / 2 ^ (2 * i) % 4) from congrArg nI (and3 _)) ?_
                        refine r_iast hx hb hK hw 8 rfl (by omega) (by omega) d_M_init_290 (fun H locs hw1 => ?_)
                        replace hw : WW G A zs ([oM h0 [.int 0, .int (nI n), .int (nI room), .int (nI 1), .int 0, .int 0, .ref a1, .ref a2, .ref a3, .ref a4, .ref a5, .ref a6, .ref a7, .ref a8, .int (nI ((PMk n k).length)), .int 0, .int 0, .int 0, .int 0, .int 0, .int 0, .int 0, .ref a9, .ref a10, .ref a11, .ref a12, .ref a13, .ref a14, .ref a15, .ref a16, .ref a17, .ref a18, .int 0, .int 0], aI G a1 40 (fun _ => 0), aI G a2 40 (fun _ => 0), aI G a3 40 (fun _ => 0), aI G a4 40 (fun _ => 0), aI G a5 160 (fun _ => 0), aI G a6 160 (fun _ => 0), aZ G a7 64 (fun _ => 0), aI G a8 96 (upd fn ((4 * ((PMk n k).length)) + i) (nI (k / 2 ^ (2 * i) % 4))), aI G a9 98304 (fun _ => 0), aI G a10 8192 (fun _ => 0), aI G a11 8192 (fun _ => 0), aI G a12 8192 (fun _ => 0), aI G a13 8192 (fun _ => 0), aI G a14 8192 (fun _ => 0), aI G a15 8192 (fun _ => 0), aI G a16 12 (fun _ => 0), aI G a17 12 (fun _ => 0), aI G a18 12 (fun _ => 0)]) H locs := hw1
                        refine r_iincN (n := 1) (lv' := [(5, .int (nI (i + 1))), (0, .ref h0), (3, .int (nI k))]) hx hb d_M_init_291 hl (k := 2) rfl (by decide) rfl (fun ls hl => ?_)
                        refine lv_goto (tgt := 260) hx hb d_M_init_294 (by decide) ?_
                        exact ih_260 (i + 1) (upd fn ((4 * ((PMk n k).length)) + i) (nI (k / 2 ^ (2 * i) % 4))) (by omega) ⟨hfn2.1.up hn4 (by omega), num_fill hfn2.2⟩ (by omega) _ _ _ (lv_sub hl [1, 2, 0] rfl) hw
                  exact Lp260 _ 0 fn (by omega) ⟨hfn, fun t ht => absurd ht (Nat.not_lt_zero _)⟩ (Nat.lt_succ_self _) _ _ _ (lv_sub hl [1, 2, 0] rfl) hw
                · skip
                  have hsk := okM_f2 (n := n) (k := k) (by omega)
                  refine lv_goto (tgt := 307) hx hb d_M_init_254 (by decide) ?_
                  refine r_iincN (n := 1) (lv' := [(3, .int (nI (k + 1))), (0, .ref h0), (4, .int (nI (seM k i))), (5, .int (nI i))]) hx hb d_M_init_307 hl (k := 1) rfl (by decide) rfl (fun ls hl => ?_)
                  refine lv_goto (tgt := 187) hx hb d_M_init_310 (by decide) ?_
                  rw [show (PMk n k).length = (PMk n (k + 1)).length by rw [PMk_skip hsk]] at hw
                  exact ih_187 (k + 1) fn (by omega) (by rw [PMk_skip hsk]; exact hfn) (by omega) _ _ _ (lv_sub hl [1, 0] rfl) hw
            · skip
              refine lv_iload hx hb d_M_init_209 (lv_at hl 2 rfl) ?_
              refine lv_iconst (v := nI 1) hx hb d_M_init_211 rfl ?_
              refine lv_iload_n hx hb d_M_init_212 rfl (lv_at hl 1 rfl) ?_
              refine lv_iconst (v := nI 2) hx hb d_M_init_213 rfl ?_
              refine lv_iload hx hb d_M_init_214 (lv_at hl 3 rfl) ?_
              refine r_imulN hx hb d_M_init_216 ?_
              refine r_ishrN hx hb (k := (2 * i)) (by omega) (by omega) d_M_init_217 ?_
              refine lv_iconst (v := nI 3) hx hb d_M_init_218 rfl ?_
              refine r_iandN hx hb d_M_init_219 ?_
              refine r_eq (show nI ((k / 2 ^ (2 * i)) &&& 3) = nI (k / 2 ^ (2 * i) % 4) from congrArg nI (and3 _)) ?_
              refine r_ishlN hx hb (k := (k / 2 ^ (2 * i) % 4)) (by omega) (by omega) d_M_init_220 ?_
              refine r_iorN hx hb d_M_init_221 ?_
              refine r_eq (show nI ((seM k i) ||| (1 * 2 ^ (k / 2 ^ (2 * i) % 4))) = nI (seM k (i + 1)) from rfl) ?_
              refine lv_istore (lv' := [(4, .int (nI (seM k (i + 1)))), (0, .ref h0), (3, .int (nI k)), (5, .int (nI i))]) hx hb d_M_init_222 hl (by decide) rfl (fun ls hl => ?_)
              refine r_iincN (n := 1) (lv' := [(5, .int (nI (i + 1))), (4, .int (nI (seM k (i + 1)))), (0, .ref h0), (3, .int (nI k))]) hx hb d_M_init_224 hl (k := 3) rfl (by decide) rfl (fun ls hl => ?_)
              refine lv_goto (tgt := 200) hx hb d_M_init_227 (by decide) ?_
              exact ih_200 (i + 1) (by omega) (by omega) _ _ _ (lv_sub hl [2, 3, 1, 0] rfl) hw
        exact Lp200 _ 0 (by omega) (Nat.lt_succ_self _) _ _ _ (lv_sub hl [2, 3, 1, 0] rfl) hw
-- KIND MISMATCH field ('N', '(PMk n k).length') ('I', '0')
  exact Lp187 _ 0 (fun _ => 0) (by omega) (fun q hq => absurd hq (Nat.not_lt_zero _)) (Nat.lt_succ_self _) _ _ _ (lv_sub hl [1, 0] rfl) hw
