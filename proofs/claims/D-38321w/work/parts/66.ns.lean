/-! the model: the start (printed by mk_c.py) -/
set_option maxRecDepth 20000 in
set_option maxHeartbeats 2000000 in
theorem ct_X5_init {G : jd_G} {h : jd_H} {i : jd_Id} {a : Nat} (ho : h i = some (a, .inl (.inr (10, [.int (0), .int (0), .int (0), .int (0), .int (0), .int (0)]))))  : jd_Ct G mX5_init 1 (0) (0) [.ref (a)] h (jd_vd (jd_up h i (a, .inl (.inr (10, [.int (10), .int (20), .int (5), .int (0), .int (0), .int (0)]))))) jd_no := by
  refine jd_ct (ls := [some (.ref (a))]) rfl rfl (by decide) (Nat.le_of_ble_eq_true rfl) rfl ?_
  refine jd_aload_n dX5_init_0 rfl ?_
  refine jd_oinit q1443 q130 q131 dX5_init_1 (Nat.le_of_ble_eq_true rfl) ?_ (Nat.le_of_ble_eq_true rfl)
  refine jd_aload_n dX5_init_4 rfl ?_
  refine jd_bipush (v := 10) dX5_init_5 (by decide) ?_
  refine jd_put (fs' := [_, _, _, _, _, _]) in_X5 tyX5_ok nmX5 ho 0 q1444 dX5_init_7 rfl (Nat.le_of_ble_eq_true rfl) rfl rfl rfl (Nat.le_of_ble_eq_true rfl) rfl ?_
  refine jd_aload_n dX5_init_10 rfl ?_
  refine jd_bipush (v := 20) dX5_init_11 (by decide) ?_
  refine jd_put (fs' := [_, _, _, _, _, _]) in_X5 tyX5_ok nmX5 jd_up_s 1 q1446 dX5_init_13 rfl (Nat.le_of_ble_eq_true rfl) rfl rfl rfl (Nat.le_of_ble_eq_true rfl) rfl ?_
  rw [jd_up_up]
  refine jd_aload_n dX5_init_16 rfl ?_
  refine jd_iconst (v := 5) dX5_init_17 (by decide) ?_
  refine jd_put (fs' := [_, _, _, _, _, _]) in_X5 tyX5_ok nmX5 jd_up_s 2 q1448 dX5_init_18 rfl (Nat.le_of_ble_eq_true rfl) rfl rfl rfl (Nat.le_of_ble_eq_true rfl) rfl ?_
  rw [jd_up_up]
  exact jd_vret dX5_init_21 rfl ⟨rfl, rfl⟩

set_option maxRecDepth 20000 in
set_option maxHeartbeats 2000000 in
theorem ct_X4_init {G : jd_G} {h : jd_H} {a : Nat} (ho : h (0, a) = some (a, .inl (.inr (9, [.int (0), .int (0), .int (0), .int (0), .int (0), .int (0), .null, .null, .null, .null, .null, .null, .long (0)])))) : jd_Ct G mX4_init 6 (12) (830) [.ref (a)] h (fun (v : Option Value) (h2 : jd_H) => v = none ∧ ∃ (γ : ll_B) (μ : ll_U), γ 0 0 = a ∧ WM G γ k_0 μ h2 ∧ ∀ j : jd_Id, ((1 ≤ j.1 ∧ j.1 < 20) ∨ 40 ≤ j.1) → h2 j = h j) jd_no := by
  refine jd_ct (ls := [some (.ref (a)), none]) rfl rfl (by decide) (Nat.le_of_ble_eq_true rfl) rfl ?_
  refine jd_aload_n dX4_init_0 rfl ?_
  refine jd_oinit q1434 q130 q131 dX4_init_1 (Nat.le_of_ble_eq_true rfl) ?_ (Nat.le_of_ble_eq_true rfl)
  refine jd_aload_n dX4_init_4 rfl ?_
  refine jd_iconst (v := 3) dX4_init_5 (by decide) ?_
  refine jd_put (fs' := [_, _, _, _, _, _, _, _, _, _, _, _, _]) in_X4 tyX4_ok nmX4 ho 3 q1469 dX4_init_6 rfl (Nat.le_of_ble_eq_true rfl) rfl rfl rfl (Nat.le_of_ble_eq_true rfl) rfl ?_
  refine jd_updG (fun h1 hs1 ho1 => ?_)
  refine jd_aload_n dX4_init_9 rfl ?_
  refine jd_bipush (v := 6) dX4_init_10 (by decide) ?_
  refine jd_anew (N' := 6) q1435 q1436 dX4_init_12 5 rfl (by decide) (by decide) (by omega) (by omega) (by omega) (fun la hla => ?_)
  have ne_a_la : ((0, a) : jd_Id) ≠ (0, la) := fun z => by have := hs1; rw [z, hla] at this; cases this
  refine jd_updG (fun h2 hs2 ho2 => ?_)
  have hf2_a := (ho2 _ ne_a_la).trans hs1
  refine jd_putF (fs' := [_, _, _, _, _, _, _, _, _, _, _, _, _]) in_X4 tyX4_ok nmX4 hf2_a 6 q1472 dX4_init_15 rfl (Nat.le_of_ble_eq_true rfl) rfl rfl rfl rfl rfl (Nat.le_of_ble_eq_true rfl) rfl ?_
  refine jd_updG (fun h3 hs3 ho3 => ?_)
  have hf3_la := (ho3 _ (Ne.symm ne_a_la)).trans hs2
  refine jd_aload_n dX4_init_18 rfl ?_
  refine jd_new (fs := [.int (0), .null, .int (0)]) in_J2 tyJ2_ok q1437 q133 q83 dX4_init_19 15 rfl rfl (by omega) (by omega) (fun l1 hl1 => ?_)
  have ne_la_l1 : ((0, la) : jd_Id) ≠ (0, l1) := fun z => by have := hf3_la; rw [z, hl1] at this; cases this
  have ne_a_l1 : ((0, a) : jd_Id) ≠ (0, l1) := fun z => by have := hs3; rw [z, hl1] at this; cases this
  refine jd_updG (fun h4 hs4 ho4 => ?_)
  have hf4_la := (ho4 _ ne_la_l1).trans hf3_la
  have hf4_a := (ho4 _ ne_a_l1).trans hs3
  refine jd_dup dX4_init_22 rfl ?_
  refine jd_callI (As := []) (rest := [.ref (l1), .ref (a)]) (ct_J2_init hs4) rfl rfl q1438 q135 q83 q136 nJ2_init dX4_init_23 rfl rfl (Nat.le_of_ble_eq_true rfl) ⟨(Nat.le_of_ble_eq_true rfl), (Nat.le_of_ble_eq_true rfl), by omega, by omega⟩ (fun rv4 hn4 hq4 => ?_) jd_nox
  obtain ⟨rfl, he4⟩ := hq4
  rw [he4]
  refine jd_updG (fun h6 hs6 ho6 => ?_)
  have hf6_la := (ho6 _ ne_la_l1).trans hf4_la
  have hf6_a := (ho6 _ ne_a_l1).trans hf4_a
  refine jd_putF (fs' := [_, _, _, _, _, _, _, _, _, _, _, _, _]) in_X4 tyX4_ok nmX4 hf6_a 7 q1473 dX4_init_26 rfl (Nat.le_of_ble_eq_true rfl) rfl rfl rfl rfl rfl (Nat.le_of_ble_eq_true rfl) rfl ?_
  refine jd_updG (fun h7 hs7 ho7 => ?_)
  have hf7_la := (ho7 _ (Ne.symm ne_a_la)).trans hf6_la
  have hf7_l1 := (ho7 _ (Ne.symm ne_a_l1)).trans hs6
  refine jd_aload_n dX4_init_29 rfl ?_
  refine jd_new (fs := [.int (0), .null, .int (0)]) in_J2 tyJ2_ok q1437 q133 q83 dX4_init_30 15 rfl rfl (by omega) (by omega) (fun l2 hl2 => ?_)
  have ne_la_l2 : ((0, la) : jd_Id) ≠ (0, l2) := fun z => by have := hf7_la; rw [z, hl2] at this; cases this
  have ne_l1_l2 : ((0, l1) : jd_Id) ≠ (0, l2) := fun z => by have := hf7_l1; rw [z, hl2] at this; cases this
  have ne_a_l2 : ((0, a) : jd_Id) ≠ (0, l2) := fun z => by have := hs7; rw [z, hl2] at this; cases this
  refine jd_updG (fun h8 hs8 ho8 => ?_)
  have hf8_la := (ho8 _ ne_la_l2).trans hf7_la
  have hf8_l1 := (ho8 _ ne_l1_l2).trans hf7_l1
  have hf8_a := (ho8 _ ne_a_l2).trans hs7
  refine jd_dup dX4_init_33 rfl ?_
  refine jd_callI (As := []) (rest := [.ref (l2), .ref (a)]) (ct_J2_init hs8) rfl rfl q1438 q135 q83 q136 nJ2_init dX4_init_34 rfl rfl (Nat.le_of_ble_eq_true rfl) ⟨(Nat.le_of_ble_eq_true rfl), (Nat.le_of_ble_eq_true rfl), by omega, by omega⟩ (fun rv8 hn8 hq8 => ?_) jd_nox
  obtain ⟨rfl, he8⟩ := hq8
  rw [he8]
  refine jd_updG (fun h10 hs10 ho10 => ?_)
  have hf10_la := (ho10 _ ne_la_l2).trans hf8_la
  have hf10_l1 := (ho10 _ ne_l1_l2).trans hf8_l1
  have hf10_a := (ho10 _ ne_a_l2).trans hf8_a
  refine jd_putF (fs' := [_, _, _, _, _, _, _, _, _, _, _, _, _]) in_X4 tyX4_ok nmX4 hf10_a 8 q1474 dX4_init_37 rfl (Nat.le_of_ble_eq_true rfl) rfl rfl rfl rfl rfl (Nat.le_of_ble_eq_true rfl) rfl ?_
  refine jd_updG (fun h11 hs11 ho11 => ?_)
  have hf11_la := (ho11 _ (Ne.symm ne_a_la)).trans hf10_la
  have hf11_l1 := (ho11 _ (Ne.symm ne_a_l1)).trans hf10_l1
  have hf11_l2 := (ho11 _ (Ne.symm ne_a_l2)).trans hs10
  refine jd_aload_n dX4_init_40 rfl ?_
  refine jd_new (fs := [.int (0), .null, .int (0)]) in_J2 tyJ2_ok q1437 q133 q83 dX4_init_41 15 rfl rfl (by omega) (by omega) (fun l3 hl3 => ?_)
  have ne_la_l3 : ((0, la) : jd_Id) ≠ (0, l3) := fun z => by have := hf11_la; rw [z, hl3] at this; cases this
  have ne_l1_l3 : ((0, l1) : jd_Id) ≠ (0, l3) := fun z => by have := hf11_l1; rw [z, hl3] at this; cases this
  have ne_l2_l3 : ((0, l2) : jd_Id) ≠ (0, l3) := fun z => by have := hf11_l2; rw [z, hl3] at this; cases this
  have ne_a_l3 : ((0, a) : jd_Id) ≠ (0, l3) := fun z => by have := hs11; rw [z, hl3] at this; cases this
  refine jd_updG (fun h12 hs12 ho12 => ?_)
  have hf12_la := (ho12 _ ne_la_l3).trans hf11_la
  have hf12_l1 := (ho12 _ ne_l1_l3).trans hf11_l1
  have hf12_l2 := (ho12 _ ne_l2_l3).trans hf11_l2
  have hf12_a := (ho12 _ ne_a_l3).trans hs11
  refine jd_dup dX4_init_44 rfl ?_
  refine jd_callI (As := []) (rest := [.ref (l3), .ref (a)]) (ct_J2_init hs12) rfl rfl q1438 q135 q83 q136 nJ2_init dX4_init_45 rfl rfl (Nat.le_of_ble_eq_true rfl) ⟨(Nat.le_of_ble_eq_true rfl), (Nat.le_of_ble_eq_true rfl), by omega, by omega⟩ (fun rv12 hn12 hq12 => ?_) jd_nox
  obtain ⟨rfl, he12⟩ := hq12
  rw [he12]
  refine jd_updG (fun h14 hs14 ho14 => ?_)
  have hf14_la := (ho14 _ ne_la_l3).trans hf12_la
  have hf14_l1 := (ho14 _ ne_l1_l3).trans hf12_l1
  have hf14_l2 := (ho14 _ ne_l2_l3).trans hf12_l2
  have hf14_a := (ho14 _ ne_a_l3).trans hf12_a
  refine jd_putF (fs' := [_, _, _, _, _, _, _, _, _, _, _, _, _]) in_X4 tyX4_ok nmX4 hf14_a 9 q1475 dX4_init_48 rfl (Nat.le_of_ble_eq_true rfl) rfl rfl rfl rfl rfl (Nat.le_of_ble_eq_true rfl) rfl ?_
  refine jd_updG (fun h15 hs15 ho15 => ?_)
  have hf15_la := (ho15 _ (Ne.symm ne_a_la)).trans hf14_la
  have hf15_l1 := (ho15 _ (Ne.symm ne_a_l1)).trans hf14_l1
  have hf15_l2 := (ho15 _ (Ne.symm ne_a_l2)).trans hf14_l2
  have hf15_l3 := (ho15 _ (Ne.symm ne_a_l3)).trans hs14
  refine jd_aload_n dX4_init_51 rfl ?_
  refine jd_new (fs := [.int (0), .null, .int (0)]) in_J2 tyJ2_ok q1437 q133 q83 dX4_init_52 15 rfl rfl (by omega) (by omega) (fun l4 hl4 => ?_)
  have ne_la_l4 : ((0, la) : jd_Id) ≠ (0, l4) := fun z => by have := hf15_la; rw [z, hl4] at this; cases this
  have ne_l1_l4 : ((0, l1) : jd_Id) ≠ (0, l4) := fun z => by have := hf15_l1; rw [z, hl4] at this; cases this
  have ne_l2_l4 : ((0, l2) : jd_Id) ≠ (0, l4) := fun z => by have := hf15_l2; rw [z, hl4] at this; cases this
  have ne_l3_l4 : ((0, l3) : jd_Id) ≠ (0, l4) := fun z => by have := hf15_l3; rw [z, hl4] at this; cases this
  have ne_a_l4 : ((0, a) : jd_Id) ≠ (0, l4) := fun z => by have := hs15; rw [z, hl4] at this; cases this
  refine jd_updG (fun h16 hs16 ho16 => ?_)
  have hf16_la := (ho16 _ ne_la_l4).trans hf15_la
  have hf16_l1 := (ho16 _ ne_l1_l4).trans hf15_l1
  have hf16_l2 := (ho16 _ ne_l2_l4).trans hf15_l2
  have hf16_l3 := (ho16 _ ne_l3_l4).trans hf15_l3
  have hf16_a := (ho16 _ ne_a_l4).trans hs15
  refine jd_dup dX4_init_55 rfl ?_
  refine jd_callI (As := []) (rest := [.ref (l4), .ref (a)]) (ct_J2_init hs16) rfl rfl q1438 q135 q83 q136 nJ2_init dX4_init_56 rfl rfl (Nat.le_of_ble_eq_true rfl) ⟨(Nat.le_of_ble_eq_true rfl), (Nat.le_of_ble_eq_true rfl), by omega, by omega⟩ (fun rv16 hn16 hq16 => ?_) jd_nox
  obtain ⟨rfl, he16⟩ := hq16
  rw [he16]
  refine jd_updG (fun h18 hs18 ho18 => ?_)
  have hf18_la := (ho18 _ ne_la_l4).trans hf16_la
  have hf18_l1 := (ho18 _ ne_l1_l4).trans hf16_l1
  have hf18_l2 := (ho18 _ ne_l2_l4).trans hf16_l2
  have hf18_l3 := (ho18 _ ne_l3_l4).trans hf16_l3
  have hf18_a := (ho18 _ ne_a_l4).trans hf16_a
  refine jd_putF (fs' := [_, _, _, _, _, _, _, _, _, _, _, _, _]) in_X4 tyX4_ok nmX4 hf18_a 10 q1476 dX4_init_59 rfl (Nat.le_of_ble_eq_true rfl) rfl rfl rfl rfl rfl (Nat.le_of_ble_eq_true rfl) rfl ?_
  refine jd_updG (fun h19 hs19 ho19 => ?_)
  have hf19_la := (ho19 _ (Ne.symm ne_a_la)).trans hf18_la
  have hf19_l1 := (ho19 _ (Ne.symm ne_a_l1)).trans hf18_l1
  have hf19_l2 := (ho19 _ (Ne.symm ne_a_l2)).trans hf18_l2
  have hf19_l3 := (ho19 _ (Ne.symm ne_a_l3)).trans hf18_l3
  have hf19_l4 := (ho19 _ (Ne.symm ne_a_l4)).trans hs18
  refine jd_aload_n dX4_init_62 rfl ?_
  refine jd_sipush (v := 776) dX4_init_63 (by decide) ?_
  refine jd_newa (atype := .boolean) (ty := .boolean) (N' := 776) rfl q810 dX4_init_66 1 rfl (by decide) rfl (nI_pos (n := 776) (by omega)) (nI_clamp (n := 776) (by omega)) (by show _ * 1 ≤ _; omega) (by omega) (by omega) (fun mA hmA => ?_)
  have ne_la_mA : ((0, la) : jd_Id) ≠ (0, mA) := fun z => by have := hf19_la; rw [z, hmA] at this; cases this
  have ne_l1_mA : ((0, l1) : jd_Id) ≠ (0, mA) := fun z => by have := hf19_l1; rw [z, hmA] at this; cases this
  have ne_l2_mA : ((0, l2) : jd_Id) ≠ (0, mA) := fun z => by have := hf19_l2; rw [z, hmA] at this; cases this
  have ne_l3_mA : ((0, l3) : jd_Id) ≠ (0, mA) := fun z => by have := hf19_l3; rw [z, hmA] at this; cases this
  have ne_l4_mA : ((0, l4) : jd_Id) ≠ (0, mA) := fun z => by have := hf19_l4; rw [z, hmA] at this; cases this
  have ne_a_mA : ((0, a) : jd_Id) ≠ (0, mA) := fun z => by have := hs19; rw [z, hmA] at this; cases this
  refine jd_updG (fun h20 hs20 ho20 => ?_)
  have hf20_la := (ho20 _ ne_la_mA).trans hf19_la
  have hf20_l1 := (ho20 _ ne_l1_mA).trans hf19_l1
  have hf20_l2 := (ho20 _ ne_l2_mA).trans hf19_l2
  have hf20_l3 := (ho20 _ ne_l3_mA).trans hf19_l3
  have hf20_l4 := (ho20 _ ne_l4_mA).trans hf19_l4
  have hf20_a := (ho20 _ ne_a_mA).trans hs19
  refine jd_putF (fs' := [_, _, _, _, _, _, _, _, _, _, _, _, _]) in_X4 tyX4_ok nmX4 hf20_a 11 q1477 dX4_init_68 rfl (Nat.le_of_ble_eq_true rfl) rfl rfl rfl rfl rfl (Nat.le_of_ble_eq_true rfl) rfl ?_
  refine jd_updG (fun h21 hs21 ho21 => ?_)
  have hf21_la := (ho21 _ (Ne.symm ne_a_la)).trans hf20_la
  have hf21_l1 := (ho21 _ (Ne.symm ne_a_l1)).trans hf20_l1
  have hf21_l2 := (ho21 _ (Ne.symm ne_a_l2)).trans hf20_l2
  have hf21_l3 := (ho21 _ (Ne.symm ne_a_l3)).trans hf20_l3
  have hf21_l4 := (ho21 _ (Ne.symm ne_a_l4)).trans hf20_l4
  have hf21_mA := (ho21 _ (Ne.symm ne_a_mA)).trans hs20
  refine jd_iconst (v := 0) dX4_init_71 (by decide) ?_
  refine jd_istore_n (ls' := [_, _]) dX4_init_72 (Nat.le_of_ble_eq_true rfl) rfl rfl ?_
  refine jd_lsub [some (.ref (a)), some (.int (nI 0))] ⟨rfl, (congrArg (fun x => some (Value.int x)) (rfl)), trivial⟩ ?_
  refine jd_iload_n dX4_init_73 rfl ?_
  refine jd_bipush (v := 6) dX4_init_74 (by decide) ?_
  refine jd_ncmp_ge (a := 0) (b := 6) (tgt := 98) dX4_init_76 (by decide) (by omega) (by omega) (fun z22 => ?_) (fun z23 => ?_)
  · omega
  · refine jd_aload_n dX4_init_79 rfl ?_
    refine jd_get in_X4 hs21 6 q1472 dX4_init_80 rfl (Nat.le_of_ble_eq_true rfl) rfl ?_
    refine jd_iload_n dX4_init_83 rfl ?_
    refine jd_new (fs := [.int (0), .int (0), .int (0), .int (0), .int (0), .int (0)]) in_X5 tyX5_ok q1435 q1439 q91 dX4_init_84 10 rfl rfl (by omega) (by omega) (fun d0 hd0 => ?_)
    have ne_la_d0 : ((0, la) : jd_Id) ≠ (0, d0) := fun z => by have := hf21_la; rw [z, hd0] at this; cases this
    have ne_l1_d0 : ((0, l1) : jd_Id) ≠ (0, d0) := fun z => by have := hf21_l1; rw [z, hd0] at this; cases this
    have ne_l2_d0 : ((0, l2) : jd_Id) ≠ (0, d0) := fun z => by have := hf21_l2; rw [z, hd0] at this; cases this
    have ne_l3_d0 : ((0, l3) : jd_Id) ≠ (0, d0) := fun z => by have := hf21_l3; rw [z, hd0] at this; cases this
    have ne_l4_d0 : ((0, l4) : jd_Id) ≠ (0, d0) := fun z => by have := hf21_l4; rw [z, hd0] at this; cases this
    have ne_mA_d0 : ((0, mA) : jd_Id) ≠ (0, d0) := fun z => by have := hf21_mA; rw [z, hd0] at this; cases this
    have ne_a_d0 : ((0, a) : jd_Id) ≠ (0, d0) := fun z => by have := hs21; rw [z, hd0] at this; cases this
    refine jd_updG (fun h24 hs24 ho24 => ?_)
    have hf24_la := (ho24 _ ne_la_d0).trans hf21_la
    have hf24_l1 := (ho24 _ ne_l1_d0).trans hf21_l1
    have hf24_l2 := (ho24 _ ne_l2_d0).trans hf21_l2
    have hf24_l3 := (ho24 _ ne_l3_d0).trans hf21_l3
    have hf24_l4 := (ho24 _ ne_l4_d0).trans hf21_l4
    have hf24_mA := (ho24 _ ne_mA_d0).trans hf21_mA
    have hf24_a := (ho24 _ ne_a_d0).trans hs21
    refine jd_dup dX4_init_87 rfl ?_
    refine jd_callN (As := []) (rest := [.ref (d0), .int (nI 0), .ref (la)]) (ct_X5_init hs24) rfl rfl q1440 q1441 q91 q1442 nX5_init dX4_init_88 rfl rfl (Nat.le_of_ble_eq_true rfl) ⟨(Nat.le_of_ble_eq_true rfl), (Nat.le_of_ble_eq_true rfl), by omega, by omega⟩ (fun rv24 hn24 hq24 => ?_) jd_nox
    obtain ⟨rfl, he24⟩ := hq24
    rw [he24]
    refine jd_updG (fun h26 hs26 ho26 => ?_)
    have hf26_la := (ho26 _ ne_la_d0).trans hf24_la
    have hf26_l1 := (ho26 _ ne_l1_d0).trans hf24_l1
    have hf26_l2 := (ho26 _ ne_l2_d0).trans hf24_l2
    have hf26_l3 := (ho26 _ ne_l3_d0).trans hf24_l3
    have hf26_l4 := (ho26 _ ne_l4_d0).trans hf24_l4
    have hf26_mA := (ho26 _ ne_mA_d0).trans hf24_mA
    have hf26_a := (ho26 _ ne_a_d0).trans hf24_a
    refine jd_aastS hf26_la (jd_rv hs26 10 rfl rfl) (ci := 10) rfl dX4_init_91 5 rfl (vp_in_nI (by omega) (by omega)) ?_
    refine jd_heq (h' := jd_up h26 (0, la) (la, .inl (.inl (G.2.1 5, 6, .inr (.inr (.inr (.inr (va_up (fun _ => none) 0 (some d0))))))))) (by rw [nI_clamp (by omega)]) ?_
    refine jd_updG (fun h27 hs27 ho27 => ?_)
    have hf27_l1 := (ho27 _ (Ne.symm ne_la_l1)).trans hf26_l1
    have hf27_l2 := (ho27 _ (Ne.symm ne_la_l2)).trans hf26_l2
    have hf27_l3 := (ho27 _ (Ne.symm ne_la_l3)).trans hf26_l3
    have hf27_l4 := (ho27 _ (Ne.symm ne_la_l4)).trans hf26_l4
    have hf27_mA := (ho27 _ (Ne.symm ne_la_mA)).trans hf26_mA
    have hf27_a := (ho27 _ ne_a_la).trans hf26_a
    have hf27_d0 := (ho27 _ (Ne.symm ne_la_d0)).trans hs26
    refine jd_iincN (n := 1) (ls' := [_, _]) dX4_init_92 rfl (Nat.le_of_ble_eq_true rfl) rfl rfl ?_
    refine jd_goto (tgt := 73) dX4_init_95 (by decide) ?_
    refine jd_iload_n dX4_init_73 rfl ?_
    refine jd_bipush (v := 6) dX4_init_74 (by decide) ?_
    refine jd_ncmp_ge (a := 1) (b := 6) (tgt := 98) dX4_init_76 (by decide) (by omega) (by omega) (fun z28 => ?_) (fun z29 => ?_)
    · omega
    · refine jd_aload_n dX4_init_79 rfl ?_
      refine jd_get in_X4 hf27_a 6 q1472 dX4_init_80 rfl (Nat.le_of_ble_eq_true rfl) rfl ?_
      refine jd_iload_n dX4_init_83 rfl ?_
      refine jd_new (fs := [.int (0), .int (0), .int (0), .int (0), .int (0), .int (0)]) in_X5 tyX5_ok q1435 q1439 q91 dX4_init_84 10 rfl rfl (by omega) (by omega) (fun d1 hd1 => ?_)
      have ne_l1_d1 : ((0, l1) : jd_Id) ≠ (0, d1) := fun z => by have := hf27_l1; rw [z, hd1] at this; cases this
      have ne_l2_d1 : ((0, l2) : jd_Id) ≠ (0, d1) := fun z => by have := hf27_l2; rw [z, hd1] at this; cases this
      have ne_l3_d1 : ((0, l3) : jd_Id) ≠ (0, d1) := fun z => by have := hf27_l3; rw [z, hd1] at this; cases this
      have ne_l4_d1 : ((0, l4) : jd_Id) ≠ (0, d1) := fun z => by have := hf27_l4; rw [z, hd1] at this; cases this
      have ne_mA_d1 : ((0, mA) : jd_Id) ≠ (0, d1) := fun z => by have := hf27_mA; rw [z, hd1] at this; cases this
      have ne_a_d1 : ((0, a) : jd_Id) ≠ (0, d1) := fun z => by have := hf27_a; rw [z, hd1] at this; cases this
      have ne_d0_d1 : ((0, d0) : jd_Id) ≠ (0, d1) := fun z => by have := hf27_d0; rw [z, hd1] at this; cases this
      have ne_la_d1 : ((0, la) : jd_Id) ≠ (0, d1) := fun z => by have := hs27; rw [z, hd1] at this; cases this
      refine jd_updG (fun h30 hs30 ho30 => ?_)
      have hf30_l1 := (ho30 _ ne_l1_d1).trans hf27_l1
      have hf30_l2 := (ho30 _ ne_l2_d1).trans hf27_l2
      have hf30_l3 := (ho30 _ ne_l3_d1).trans hf27_l3
      have hf30_l4 := (ho30 _ ne_l4_d1).trans hf27_l4
      have hf30_mA := (ho30 _ ne_mA_d1).trans hf27_mA
      have hf30_a := (ho30 _ ne_a_d1).trans hf27_a
      have hf30_d0 := (ho30 _ ne_d0_d1).trans hf27_d0
      have hf30_la := (ho30 _ ne_la_d1).trans hs27
      refine jd_dup dX4_init_87 rfl ?_
      refine jd_callN (As := []) (rest := [.ref (d1), .int (nI 1), .ref (la)]) (ct_X5_init hs30) rfl rfl q1440 q1441 q91 q1442 nX5_init dX4_init_88 rfl rfl (Nat.le_of_ble_eq_true rfl) ⟨(Nat.le_of_ble_eq_true rfl), (Nat.le_of_ble_eq_true rfl), by omega, by omega⟩ (fun rv30 hn30 hq30 => ?_) jd_nox
      obtain ⟨rfl, he30⟩ := hq30
      rw [he30]
      refine jd_updG (fun h32 hs32 ho32 => ?_)
      have hf32_l1 := (ho32 _ ne_l1_d1).trans hf30_l1
      have hf32_l2 := (ho32 _ ne_l2_d1).trans hf30_l2
      have hf32_l3 := (ho32 _ ne_l3_d1).trans hf30_l3
      have hf32_l4 := (ho32 _ ne_l4_d1).trans hf30_l4
      have hf32_mA := (ho32 _ ne_mA_d1).trans hf30_mA
      have hf32_a := (ho32 _ ne_a_d1).trans hf30_a
      have hf32_d0 := (ho32 _ ne_d0_d1).trans hf30_d0
      have hf32_la := (ho32 _ ne_la_d1).trans hf30_la
      refine jd_aastS hf32_la (jd_rv hs32 10 rfl rfl) (ci := 10) rfl dX4_init_91 5 rfl (vp_in_nI (by omega) (by omega)) ?_
      refine jd_heq (h' := jd_up h32 (0, la) (la, .inl (.inl (G.2.1 5, 6, .inr (.inr (.inr (.inr (va_up (va_up (fun _ => none) 0 (some d0)) 1 (some d1))))))))) (by rw [nI_clamp (by omega)]) ?_
      refine jd_updG (fun h33 hs33 ho33 => ?_)
      have hf33_l1 := (ho33 _ (Ne.symm ne_la_l1)).trans hf32_l1
      have hf33_l2 := (ho33 _ (Ne.symm ne_la_l2)).trans hf32_l2
      have hf33_l3 := (ho33 _ (Ne.symm ne_la_l3)).trans hf32_l3
      have hf33_l4 := (ho33 _ (Ne.symm ne_la_l4)).trans hf32_l4
      have hf33_mA := (ho33 _ (Ne.symm ne_la_mA)).trans hf32_mA
      have hf33_a := (ho33 _ ne_a_la).trans hf32_a
      have hf33_d0 := (ho33 _ (Ne.symm ne_la_d0)).trans hf32_d0
      have hf33_d1 := (ho33 _ (Ne.symm ne_la_d1)).trans hs32
      refine jd_iincN (n := 1) (ls' := [_, _]) dX4_init_92 rfl (Nat.le_of_ble_eq_true rfl) rfl rfl ?_
      refine jd_goto (tgt := 73) dX4_init_95 (by decide) ?_
      refine jd_iload_n dX4_init_73 rfl ?_
      refine jd_bipush (v := 6) dX4_init_74 (by decide) ?_
      refine jd_ncmp_ge (a := 2) (b := 6) (tgt := 98) dX4_init_76 (by decide) (by omega) (by omega) (fun z34 => ?_) (fun z35 => ?_)
      · omega
      · refine jd_aload_n dX4_init_79 rfl ?_
        refine jd_get in_X4 hf33_a 6 q1472 dX4_init_80 rfl (Nat.le_of_ble_eq_true rfl) rfl ?_
        refine jd_iload_n dX4_init_83 rfl ?_
        refine jd_new (fs := [.int (0), .int (0), .int (0), .int (0), .int (0), .int (0)]) in_X5 tyX5_ok q1435 q1439 q91 dX4_init_84 10 rfl rfl (by omega) (by omega) (fun d2 hd2 => ?_)
        have ne_l1_d2 : ((0, l1) : jd_Id) ≠ (0, d2) := fun z => by have := hf33_l1; rw [z, hd2] at this; cases this
        have ne_l2_d2 : ((0, l2) : jd_Id) ≠ (0, d2) := fun z => by have := hf33_l2; rw [z, hd2] at this; cases this
        have ne_l3_d2 : ((0, l3) : jd_Id) ≠ (0, d2) := fun z => by have := hf33_l3; rw [z, hd2] at this; cases this
        have ne_l4_d2 : ((0, l4) : jd_Id) ≠ (0, d2) := fun z => by have := hf33_l4; rw [z, hd2] at this; cases this
        have ne_mA_d2 : ((0, mA) : jd_Id) ≠ (0, d2) := fun z => by have := hf33_mA; rw [z, hd2] at this; cases this
        have ne_a_d2 : ((0, a) : jd_Id) ≠ (0, d2) := fun z => by have := hf33_a; rw [z, hd2] at this; cases this
        have ne_d0_d2 : ((0, d0) : jd_Id) ≠ (0, d2) := fun z => by have := hf33_d0; rw [z, hd2] at this; cases this
        have ne_d1_d2 : ((0, d1) : jd_Id) ≠ (0, d2) := fun z => by have := hf33_d1; rw [z, hd2] at this; cases this
        have ne_la_d2 : ((0, la) : jd_Id) ≠ (0, d2) := fun z => by have := hs33; rw [z, hd2] at this; cases this
        refine jd_updG (fun h36 hs36 ho36 => ?_)
        have hf36_l1 := (ho36 _ ne_l1_d2).trans hf33_l1
        have hf36_l2 := (ho36 _ ne_l2_d2).trans hf33_l2
        have hf36_l3 := (ho36 _ ne_l3_d2).trans hf33_l3
        have hf36_l4 := (ho36 _ ne_l4_d2).trans hf33_l4
        have hf36_mA := (ho36 _ ne_mA_d2).trans hf33_mA
        have hf36_a := (ho36 _ ne_a_d2).trans hf33_a
        have hf36_d0 := (ho36 _ ne_d0_d2).trans hf33_d0
        have hf36_d1 := (ho36 _ ne_d1_d2).trans hf33_d1
        have hf36_la := (ho36 _ ne_la_d2).trans hs33
        refine jd_dup dX4_init_87 rfl ?_
        refine jd_callN (As := []) (rest := [.ref (d2), .int (nI 2), .ref (la)]) (ct_X5_init hs36) rfl rfl q1440 q1441 q91 q1442 nX5_init dX4_init_88 rfl rfl (Nat.le_of_ble_eq_true rfl) ⟨(Nat.le_of_ble_eq_true rfl), (Nat.le_of_ble_eq_true rfl), by omega, by omega⟩ (fun rv36 hn36 hq36 => ?_) jd_nox
        obtain ⟨rfl, he36⟩ := hq36
        rw [he36]
        refine jd_updG (fun h38 hs38 ho38 => ?_)
        have hf38_l1 := (ho38 _ ne_l1_d2).trans hf36_l1
        have hf38_l2 := (ho38 _ ne_l2_d2).trans hf36_l2
        have hf38_l3 := (ho38 _ ne_l3_d2).trans hf36_l3
        have hf38_l4 := (ho38 _ ne_l4_d2).trans hf36_l4
        have hf38_mA := (ho38 _ ne_mA_d2).trans hf36_mA
        have hf38_a := (ho38 _ ne_a_d2).trans hf36_a
        have hf38_d0 := (ho38 _ ne_d0_d2).trans hf36_d0
        have hf38_d1 := (ho38 _ ne_d1_d2).trans hf36_d1
        have hf38_la := (ho38 _ ne_la_d2).trans hf36_la
        refine jd_aastS hf38_la (jd_rv hs38 10 rfl rfl) (ci := 10) rfl dX4_init_91 5 rfl (vp_in_nI (by omega) (by omega)) ?_
        refine jd_heq (h' := jd_up h38 (0, la) (la, .inl (.inl (G.2.1 5, 6, .inr (.inr (.inr (.inr (va_up (va_up (va_up (fun _ => none) 0 (some d0)) 1 (some d1)) 2 (some d2))))))))) (by rw [nI_clamp (by omega)]) ?_
        refine jd_updG (fun h39 hs39 ho39 => ?_)
        have hf39_l1 := (ho39 _ (Ne.symm ne_la_l1)).trans hf38_l1
        have hf39_l2 := (ho39 _ (Ne.symm ne_la_l2)).trans hf38_l2
        have hf39_l3 := (ho39 _ (Ne.symm ne_la_l3)).trans hf38_l3
        have hf39_l4 := (ho39 _ (Ne.symm ne_la_l4)).trans hf38_l4
        have hf39_mA := (ho39 _ (Ne.symm ne_la_mA)).trans hf38_mA
        have hf39_a := (ho39 _ ne_a_la).trans hf38_a
        have hf39_d0 := (ho39 _ (Ne.symm ne_la_d0)).trans hf38_d0
        have hf39_d1 := (ho39 _ (Ne.symm ne_la_d1)).trans hf38_d1
        have hf39_d2 := (ho39 _ (Ne.symm ne_la_d2)).trans hs38
        refine jd_iincN (n := 1) (ls' := [_, _]) dX4_init_92 rfl (Nat.le_of_ble_eq_true rfl) rfl rfl ?_
        refine jd_goto (tgt := 73) dX4_init_95 (by decide) ?_
        refine jd_iload_n dX4_init_73 rfl ?_
        refine jd_bipush (v := 6) dX4_init_74 (by decide) ?_
        refine jd_ncmp_ge (a := 3) (b := 6) (tgt := 98) dX4_init_76 (by decide) (by omega) (by omega) (fun z40 => ?_) (fun z41 => ?_)
        · omega
        · refine jd_aload_n dX4_init_79 rfl ?_
          refine jd_get in_X4 hf39_a 6 q1472 dX4_init_80 rfl (Nat.le_of_ble_eq_true rfl) rfl ?_
          refine jd_iload_n dX4_init_83 rfl ?_
          refine jd_new (fs := [.int (0), .int (0), .int (0), .int (0), .int (0), .int (0)]) in_X5 tyX5_ok q1435 q1439 q91 dX4_init_84 10 rfl rfl (by omega) (by omega) (fun d3 hd3 => ?_)
          have ne_l1_d3 : ((0, l1) : jd_Id) ≠ (0, d3) := fun z => by have := hf39_l1; rw [z, hd3] at this; cases this
          have ne_l2_d3 : ((0, l2) : jd_Id) ≠ (0, d3) := fun z => by have := hf39_l2; rw [z, hd3] at this; cases this
          have ne_l3_d3 : ((0, l3) : jd_Id) ≠ (0, d3) := fun z => by have := hf39_l3; rw [z, hd3] at this; cases this
          have ne_l4_d3 : ((0, l4) : jd_Id) ≠ (0, d3) := fun z => by have := hf39_l4; rw [z, hd3] at this; cases this
          have ne_mA_d3 : ((0, mA) : jd_Id) ≠ (0, d3) := fun z => by have := hf39_mA; rw [z, hd3] at this; cases this
          have ne_a_d3 : ((0, a) : jd_Id) ≠ (0, d3) := fun z => by have := hf39_a; rw [z, hd3] at this; cases this
          have ne_d0_d3 : ((0, d0) : jd_Id) ≠ (0, d3) := fun z => by have := hf39_d0; rw [z, hd3] at this; cases this
          have ne_d1_d3 : ((0, d1) : jd_Id) ≠ (0, d3) := fun z => by have := hf39_d1; rw [z, hd3] at this; cases this
          have ne_d2_d3 : ((0, d2) : jd_Id) ≠ (0, d3) := fun z => by have := hf39_d2; rw [z, hd3] at this; cases this
          have ne_la_d3 : ((0, la) : jd_Id) ≠ (0, d3) := fun z => by have := hs39; rw [z, hd3] at this; cases this
          refine jd_updG (fun h42 hs42 ho42 => ?_)
          have hf42_l1 := (ho42 _ ne_l1_d3).trans hf39_l1
          have hf42_l2 := (ho42 _ ne_l2_d3).trans hf39_l2
          have hf42_l3 := (ho42 _ ne_l3_d3).trans hf39_l3
          have hf42_l4 := (ho42 _ ne_l4_d3).trans hf39_l4
          have hf42_mA := (ho42 _ ne_mA_d3).trans hf39_mA
          have hf42_a := (ho42 _ ne_a_d3).trans hf39_a
          have hf42_d0 := (ho42 _ ne_d0_d3).trans hf39_d0
          have hf42_d1 := (ho42 _ ne_d1_d3).trans hf39_d1
          have hf42_d2 := (ho42 _ ne_d2_d3).trans hf39_d2
          have hf42_la := (ho42 _ ne_la_d3).trans hs39
          refine jd_dup dX4_init_87 rfl ?_
          refine jd_callN (As := []) (rest := [.ref (d3), .int (nI 3), .ref (la)]) (ct_X5_init hs42) rfl rfl q1440 q1441 q91 q1442 nX5_init dX4_init_88 rfl rfl (Nat.le_of_ble_eq_true rfl) ⟨(Nat.le_of_ble_eq_true rfl), (Nat.le_of_ble_eq_true rfl), by omega, by omega⟩ (fun rv42 hn42 hq42 => ?_) jd_nox
          obtain ⟨rfl, he42⟩ := hq42
          rw [he42]
          refine jd_updG (fun h44 hs44 ho44 => ?_)
          have hf44_l1 := (ho44 _ ne_l1_d3).trans hf42_l1
          have hf44_l2 := (ho44 _ ne_l2_d3).trans hf42_l2
          have hf44_l3 := (ho44 _ ne_l3_d3).trans hf42_l3
          have hf44_l4 := (ho44 _ ne_l4_d3).trans hf42_l4
          have hf44_mA := (ho44 _ ne_mA_d3).trans hf42_mA
          have hf44_a := (ho44 _ ne_a_d3).trans hf42_a
          have hf44_d0 := (ho44 _ ne_d0_d3).trans hf42_d0
          have hf44_d1 := (ho44 _ ne_d1_d3).trans hf42_d1
          have hf44_d2 := (ho44 _ ne_d2_d3).trans hf42_d2
          have hf44_la := (ho44 _ ne_la_d3).trans hf42_la
          refine jd_aastS hf44_la (jd_rv hs44 10 rfl rfl) (ci := 10) rfl dX4_init_91 5 rfl (vp_in_nI (by omega) (by omega)) ?_
          refine jd_heq (h' := jd_up h44 (0, la) (la, .inl (.inl (G.2.1 5, 6, .inr (.inr (.inr (.inr (va_up (va_up (va_up (va_up (fun _ => none) 0 (some d0)) 1 (some d1)) 2 (some d2)) 3 (some d3))))))))) (by rw [nI_clamp (by omega)]) ?_
          refine jd_updG (fun h45 hs45 ho45 => ?_)
          have hf45_l1 := (ho45 _ (Ne.symm ne_la_l1)).trans hf44_l1
          have hf45_l2 := (ho45 _ (Ne.symm ne_la_l2)).trans hf44_l2
          have hf45_l3 := (ho45 _ (Ne.symm ne_la_l3)).trans hf44_l3
          have hf45_l4 := (ho45 _ (Ne.symm ne_la_l4)).trans hf44_l4
          have hf45_mA := (ho45 _ (Ne.symm ne_la_mA)).trans hf44_mA
          have hf45_a := (ho45 _ ne_a_la).trans hf44_a
          have hf45_d0 := (ho45 _ (Ne.symm ne_la_d0)).trans hf44_d0
          have hf45_d1 := (ho45 _ (Ne.symm ne_la_d1)).trans hf44_d1
          have hf45_d2 := (ho45 _ (Ne.symm ne_la_d2)).trans hf44_d2
          have hf45_d3 := (ho45 _ (Ne.symm ne_la_d3)).trans hs44
          refine jd_iincN (n := 1) (ls' := [_, _]) dX4_init_92 rfl (Nat.le_of_ble_eq_true rfl) rfl rfl ?_
          refine jd_goto (tgt := 73) dX4_init_95 (by decide) ?_
          refine jd_iload_n dX4_init_73 rfl ?_
          refine jd_bipush (v := 6) dX4_init_74 (by decide) ?_
          refine jd_ncmp_ge (a := 4) (b := 6) (tgt := 98) dX4_init_76 (by decide) (by omega) (by omega) (fun z46 => ?_) (fun z47 => ?_)
          · omega
          · refine jd_aload_n dX4_init_79 rfl ?_
            refine jd_get in_X4 hf45_a 6 q1472 dX4_init_80 rfl (Nat.le_of_ble_eq_true rfl) rfl ?_
            refine jd_iload_n dX4_init_83 rfl ?_
            refine jd_new (fs := [.int (0), .int (0), .int (0), .int (0), .int (0), .int (0)]) in_X5 tyX5_ok q1435 q1439 q91 dX4_init_84 10 rfl rfl (by omega) (by omega) (fun d4 hd4 => ?_)
            have ne_l1_d4 : ((0, l1) : jd_Id) ≠ (0, d4) := fun z => by have := hf45_l1; rw [z, hd4] at this; cases this
            have ne_l2_d4 : ((0, l2) : jd_Id) ≠ (0, d4) := fun z => by have := hf45_l2; rw [z, hd4] at this; cases this
            have ne_l3_d4 : ((0, l3) : jd_Id) ≠ (0, d4) := fun z => by have := hf45_l3; rw [z, hd4] at this; cases this
            have ne_l4_d4 : ((0, l4) : jd_Id) ≠ (0, d4) := fun z => by have := hf45_l4; rw [z, hd4] at this; cases this
            have ne_mA_d4 : ((0, mA) : jd_Id) ≠ (0, d4) := fun z => by have := hf45_mA; rw [z, hd4] at this; cases this
            have ne_a_d4 : ((0, a) : jd_Id) ≠ (0, d4) := fun z => by have := hf45_a; rw [z, hd4] at this; cases this
            have ne_d0_d4 : ((0, d0) : jd_Id) ≠ (0, d4) := fun z => by have := hf45_d0; rw [z, hd4] at this; cases this
            have ne_d1_d4 : ((0, d1) : jd_Id) ≠ (0, d4) := fun z => by have := hf45_d1; rw [z, hd4] at this; cases this
            have ne_d2_d4 : ((0, d2) : jd_Id) ≠ (0, d4) := fun z => by have := hf45_d2; rw [z, hd4] at this; cases this
            have ne_d3_d4 : ((0, d3) : jd_Id) ≠ (0, d4) := fun z => by have := hf45_d3; rw [z, hd4] at this; cases this
            have ne_la_d4 : ((0, la) : jd_Id) ≠ (0, d4) := fun z => by have := hs45; rw [z, hd4] at this; cases this
            refine jd_updG (fun h48 hs48 ho48 => ?_)
            have hf48_l1 := (ho48 _ ne_l1_d4).trans hf45_l1
            have hf48_l2 := (ho48 _ ne_l2_d4).trans hf45_l2
            have hf48_l3 := (ho48 _ ne_l3_d4).trans hf45_l3
            have hf48_l4 := (ho48 _ ne_l4_d4).trans hf45_l4
            have hf48_mA := (ho48 _ ne_mA_d4).trans hf45_mA
            have hf48_a := (ho48 _ ne_a_d4).trans hf45_a
            have hf48_d0 := (ho48 _ ne_d0_d4).trans hf45_d0
            have hf48_d1 := (ho48 _ ne_d1_d4).trans hf45_d1
            have hf48_d2 := (ho48 _ ne_d2_d4).trans hf45_d2
            have hf48_d3 := (ho48 _ ne_d3_d4).trans hf45_d3
            have hf48_la := (ho48 _ ne_la_d4).trans hs45
            refine jd_dup dX4_init_87 rfl ?_
            refine jd_callN (As := []) (rest := [.ref (d4), .int (nI 4), .ref (la)]) (ct_X5_init hs48) rfl rfl q1440 q1441 q91 q1442 nX5_init dX4_init_88 rfl rfl (Nat.le_of_ble_eq_true rfl) ⟨(Nat.le_of_ble_eq_true rfl), (Nat.le_of_ble_eq_true rfl), by omega, by omega⟩ (fun rv48 hn48 hq48 => ?_) jd_nox
            obtain ⟨rfl, he48⟩ := hq48
            rw [he48]
            refine jd_updG (fun h50 hs50 ho50 => ?_)
            have hf50_l1 := (ho50 _ ne_l1_d4).trans hf48_l1
            have hf50_l2 := (ho50 _ ne_l2_d4).trans hf48_l2
            have hf50_l3 := (ho50 _ ne_l3_d4).trans hf48_l3
            have hf50_l4 := (ho50 _ ne_l4_d4).trans hf48_l4
            have hf50_mA := (ho50 _ ne_mA_d4).trans hf48_mA
            have hf50_a := (ho50 _ ne_a_d4).trans hf48_a
            have hf50_d0 := (ho50 _ ne_d0_d4).trans hf48_d0
            have hf50_d1 := (ho50 _ ne_d1_d4).trans hf48_d1
            have hf50_d2 := (ho50 _ ne_d2_d4).trans hf48_d2
            have hf50_d3 := (ho50 _ ne_d3_d4).trans hf48_d3
            have hf50_la := (ho50 _ ne_la_d4).trans hf48_la
            refine jd_aastS hf50_la (jd_rv hs50 10 rfl rfl) (ci := 10) rfl dX4_init_91 5 rfl (vp_in_nI (by omega) (by omega)) ?_
            refine jd_heq (h' := jd_up h50 (0, la) (la, .inl (.inl (G.2.1 5, 6, .inr (.inr (.inr (.inr (va_up (va_up (va_up (va_up (va_up (fun _ => none) 0 (some d0)) 1 (some d1)) 2 (some d2)) 3 (some d3)) 4 (some d4))))))))) (by rw [nI_clamp (by omega)]) ?_
            refine jd_updG (fun h51 hs51 ho51 => ?_)
            have hf51_l1 := (ho51 _ (Ne.symm ne_la_l1)).trans hf50_l1
            have hf51_l2 := (ho51 _ (Ne.symm ne_la_l2)).trans hf50_l2
            have hf51_l3 := (ho51 _ (Ne.symm ne_la_l3)).trans hf50_l3
            have hf51_l4 := (ho51 _ (Ne.symm ne_la_l4)).trans hf50_l4
            have hf51_mA := (ho51 _ (Ne.symm ne_la_mA)).trans hf50_mA
            have hf51_a := (ho51 _ ne_a_la).trans hf50_a
            have hf51_d0 := (ho51 _ (Ne.symm ne_la_d0)).trans hf50_d0
            have hf51_d1 := (ho51 _ (Ne.symm ne_la_d1)).trans hf50_d1
            have hf51_d2 := (ho51 _ (Ne.symm ne_la_d2)).trans hf50_d2
            have hf51_d3 := (ho51 _ (Ne.symm ne_la_d3)).trans hf50_d3
            have hf51_d4 := (ho51 _ (Ne.symm ne_la_d4)).trans hs50
            refine jd_iincN (n := 1) (ls' := [_, _]) dX4_init_92 rfl (Nat.le_of_ble_eq_true rfl) rfl rfl ?_
            refine jd_goto (tgt := 73) dX4_init_95 (by decide) ?_
            refine jd_iload_n dX4_init_73 rfl ?_
            refine jd_bipush (v := 6) dX4_init_74 (by decide) ?_
            refine jd_ncmp_ge (a := 5) (b := 6) (tgt := 98) dX4_init_76 (by decide) (by omega) (by omega) (fun z52 => ?_) (fun z53 => ?_)
            · omega
            · refine jd_aload_n dX4_init_79 rfl ?_
              refine jd_get in_X4 hf51_a 6 q1472 dX4_init_80 rfl (Nat.le_of_ble_eq_true rfl) rfl ?_
              refine jd_iload_n dX4_init_83 rfl ?_
              refine jd_new (fs := [.int (0), .int (0), .int (0), .int (0), .int (0), .int (0)]) in_X5 tyX5_ok q1435 q1439 q91 dX4_init_84 10 rfl rfl (by omega) (by omega) (fun d5 hd5 => ?_)
              have ne_l1_d5 : ((0, l1) : jd_Id) ≠ (0, d5) := fun z => by have := hf51_l1; rw [z, hd5] at this; cases this
              have ne_l2_d5 : ((0, l2) : jd_Id) ≠ (0, d5) := fun z => by have := hf51_l2; rw [z, hd5] at this; cases this
              have ne_l3_d5 : ((0, l3) : jd_Id) ≠ (0, d5) := fun z => by have := hf51_l3; rw [z, hd5] at this; cases this
              have ne_l4_d5 : ((0, l4) : jd_Id) ≠ (0, d5) := fun z => by have := hf51_l4; rw [z, hd5] at this; cases this
              have ne_mA_d5 : ((0, mA) : jd_Id) ≠ (0, d5) := fun z => by have := hf51_mA; rw [z, hd5] at this; cases this
              have ne_a_d5 : ((0, a) : jd_Id) ≠ (0, d5) := fun z => by have := hf51_a; rw [z, hd5] at this; cases this
              have ne_d0_d5 : ((0, d0) : jd_Id) ≠ (0, d5) := fun z => by have := hf51_d0; rw [z, hd5] at this; cases this
              have ne_d1_d5 : ((0, d1) : jd_Id) ≠ (0, d5) := fun z => by have := hf51_d1; rw [z, hd5] at this; cases this
              have ne_d2_d5 : ((0, d2) : jd_Id) ≠ (0, d5) := fun z => by have := hf51_d2; rw [z, hd5] at this; cases this
              have ne_d3_d5 : ((0, d3) : jd_Id) ≠ (0, d5) := fun z => by have := hf51_d3; rw [z, hd5] at this; cases this
              have ne_d4_d5 : ((0, d4) : jd_Id) ≠ (0, d5) := fun z => by have := hf51_d4; rw [z, hd5] at this; cases this
              have ne_la_d5 : ((0, la) : jd_Id) ≠ (0, d5) := fun z => by have := hs51; rw [z, hd5] at this; cases this
              refine jd_updG (fun h54 hs54 ho54 => ?_)
              have hf54_l1 := (ho54 _ ne_l1_d5).trans hf51_l1
              have hf54_l2 := (ho54 _ ne_l2_d5).trans hf51_l2
              have hf54_l3 := (ho54 _ ne_l3_d5).trans hf51_l3
              have hf54_l4 := (ho54 _ ne_l4_d5).trans hf51_l4
              have hf54_mA := (ho54 _ ne_mA_d5).trans hf51_mA
              have hf54_a := (ho54 _ ne_a_d5).trans hf51_a
              have hf54_d0 := (ho54 _ ne_d0_d5).trans hf51_d0
              have hf54_d1 := (ho54 _ ne_d1_d5).trans hf51_d1
              have hf54_d2 := (ho54 _ ne_d2_d5).trans hf51_d2
              have hf54_d3 := (ho54 _ ne_d3_d5).trans hf51_d3
              have hf54_d4 := (ho54 _ ne_d4_d5).trans hf51_d4
              have hf54_la := (ho54 _ ne_la_d5).trans hs51
              refine jd_dup dX4_init_87 rfl ?_
              refine jd_callN (As := []) (rest := [.ref (d5), .int (nI 5), .ref (la)]) (ct_X5_init hs54) rfl rfl q1440 q1441 q91 q1442 nX5_init dX4_init_88 rfl rfl (Nat.le_of_ble_eq_true rfl) ⟨(Nat.le_of_ble_eq_true rfl), (Nat.le_of_ble_eq_true rfl), by omega, by omega⟩ (fun rv54 hn54 hq54 => ?_) jd_nox
              obtain ⟨rfl, he54⟩ := hq54
              rw [he54]
              refine jd_updG (fun h56 hs56 ho56 => ?_)
              have hf56_l1 := (ho56 _ ne_l1_d5).trans hf54_l1
              have hf56_l2 := (ho56 _ ne_l2_d5).trans hf54_l2
              have hf56_l3 := (ho56 _ ne_l3_d5).trans hf54_l3
              have hf56_l4 := (ho56 _ ne_l4_d5).trans hf54_l4
              have hf56_mA := (ho56 _ ne_mA_d5).trans hf54_mA
              have hf56_a := (ho56 _ ne_a_d5).trans hf54_a
              have hf56_d0 := (ho56 _ ne_d0_d5).trans hf54_d0
              have hf56_d1 := (ho56 _ ne_d1_d5).trans hf54_d1
              have hf56_d2 := (ho56 _ ne_d2_d5).trans hf54_d2
              have hf56_d3 := (ho56 _ ne_d3_d5).trans hf54_d3
              have hf56_d4 := (ho56 _ ne_d4_d5).trans hf54_d4
              have hf56_la := (ho56 _ ne_la_d5).trans hf54_la
              refine jd_aastS hf56_la (jd_rv hs56 10 rfl rfl) (ci := 10) rfl dX4_init_91 5 rfl (vp_in_nI (by omega) (by omega)) ?_
              refine jd_heq (h' := jd_up h56 (0, la) (la, .inl (.inl (G.2.1 5, 6, .inr (.inr (.inr (.inr (va_up (va_up (va_up (va_up (va_up (va_up (fun _ => none) 0 (some d0)) 1 (some d1)) 2 (some d2)) 3 (some d3)) 4 (some d4)) 5 (some d5))))))))) (by rw [nI_clamp (by omega)]) ?_
              refine jd_updG (fun h57 hs57 ho57 => ?_)
              have hf57_l1 := (ho57 _ (Ne.symm ne_la_l1)).trans hf56_l1
              have hf57_l2 := (ho57 _ (Ne.symm ne_la_l2)).trans hf56_l2
              have hf57_l3 := (ho57 _ (Ne.symm ne_la_l3)).trans hf56_l3
              have hf57_l4 := (ho57 _ (Ne.symm ne_la_l4)).trans hf56_l4
              have hf57_mA := (ho57 _ (Ne.symm ne_la_mA)).trans hf56_mA
              have hf57_a := (ho57 _ ne_a_la).trans hf56_a
              have hf57_d0 := (ho57 _ (Ne.symm ne_la_d0)).trans hf56_d0
              have hf57_d1 := (ho57 _ (Ne.symm ne_la_d1)).trans hf56_d1
              have hf57_d2 := (ho57 _ (Ne.symm ne_la_d2)).trans hf56_d2
              have hf57_d3 := (ho57 _ (Ne.symm ne_la_d3)).trans hf56_d3
              have hf57_d4 := (ho57 _ (Ne.symm ne_la_d4)).trans hf56_d4
              have hf57_d5 := (ho57 _ (Ne.symm ne_la_d5)).trans hs56
              refine jd_iincN (n := 1) (ls' := [_, _]) dX4_init_92 rfl (Nat.le_of_ble_eq_true rfl) rfl rfl ?_
              refine jd_goto (tgt := 73) dX4_init_95 (by decide) ?_
              refine jd_iload_n dX4_init_73 rfl ?_
              refine jd_bipush (v := 6) dX4_init_74 (by decide) ?_
              refine jd_ncmp_ge (a := 6) (b := 6) (tgt := 98) dX4_init_76 (by decide) (by omega) (by omega) (fun z58 => ?_) (fun z59 => ?_)
              · refine jd_arrR hs57 (f2 := fun k => some ((va_up (va_up (va_up (va_up (va_up (va_up (fun _ => 0) 0 d0) 1 d1) 2 d2) 3 d3) 4 d4) 5 d5) k)) (fun k hk => by rcases (by omega : k = 0 ∨ k = 1 ∨ k = 2 ∨ k = 3 ∨ k = 4 ∨ k = 5) with rfl | rfl | rfl | rfl | rfl | rfl <;> rfl) ?_
                refine jd_updG (fun h60 hs60 ho60 => ?_)
                have hf60_l1 := (ho60 _ (Ne.symm ne_la_l1)).trans hf57_l1
                have hf60_l2 := (ho60 _ (Ne.symm ne_la_l2)).trans hf57_l2
                have hf60_l3 := (ho60 _ (Ne.symm ne_la_l3)).trans hf57_l3
                have hf60_l4 := (ho60 _ (Ne.symm ne_la_l4)).trans hf57_l4
                have hf60_mA := (ho60 _ (Ne.symm ne_la_mA)).trans hf57_mA
                have hf60_a := (ho60 _ ne_a_la).trans hf57_a
                have hf60_d0 := (ho60 _ (Ne.symm ne_la_d0)).trans hf57_d0
                have hf60_d1 := (ho60 _ (Ne.symm ne_la_d1)).trans hf57_d1
                have hf60_d2 := (ho60 _ (Ne.symm ne_la_d2)).trans hf57_d2
                have hf60_d3 := (ho60 _ (Ne.symm ne_la_d3)).trans hf57_d3
                have hf60_d4 := (ho60 _ (Ne.symm ne_la_d4)).trans hf57_d4
                have hf60_d5 := (ho60 _ (Ne.symm ne_la_d5)).trans hf57_d5
                refine jd_lst hf60_l4 (f2 := fun j => jd_bx G (hidN k_0 j)) (fun k hk => absurd hk (Nat.not_lt_zero k)) ?_
                refine jd_updG (fun h61 hs61 ho61 => ?_)
                have hf61_l1 := (ho61 _ ne_l1_l4).trans hf60_l1
                have hf61_l2 := (ho61 _ ne_l2_l4).trans hf60_l2
                have hf61_l3 := (ho61 _ ne_l3_l4).trans hf60_l3
                have hf61_mA := (ho61 _ (Ne.symm ne_l4_mA)).trans hf60_mA
                have hf61_a := (ho61 _ ne_a_l4).trans hf60_a
                have hf61_d0 := (ho61 _ (Ne.symm ne_l4_d0)).trans hf60_d0
                have hf61_d1 := (ho61 _ (Ne.symm ne_l4_d1)).trans hf60_d1
                have hf61_d2 := (ho61 _ (Ne.symm ne_l4_d2)).trans hf60_d2
                have hf61_d3 := (ho61 _ (Ne.symm ne_l4_d3)).trans hf60_d3
                have hf61_d4 := (ho61 _ (Ne.symm ne_l4_d4)).trans hf60_d4
                have hf61_d5 := (ho61 _ (Ne.symm ne_l4_d5)).trans hf60_d5
                have hf61_la := (ho61 _ ne_la_l4).trans hs60
                have hff : ∀ j : jd_Id, ((1 ≤ j.1 ∧ j.1 < 20) ∨ 40 ≤ j.1) → h61 j = h j := fun j hj => ((ho61 j (ll_ne0 hj)).trans ((ho60 j (ll_ne0 hj)).trans ((ho57 j (ll_ne0 hj)).trans ((ho56 j (ll_ne0 hj)).trans ((ho54 j (ll_ne0 hj)).trans ((ho51 j (ll_ne0 hj)).trans ((ho50 j (ll_ne0 hj)).trans ((ho48 j (ll_ne0 hj)).trans ((ho45 j (ll_ne0 hj)).trans ((ho44 j (ll_ne0 hj)).trans ((ho42 j (ll_ne0 hj)).trans ((ho39 j (ll_ne0 hj)).trans ((ho38 j (ll_ne0 hj)).trans ((ho36 j (ll_ne0 hj)).trans ((ho33 j (ll_ne0 hj)).trans ((ho32 j (ll_ne0 hj)).trans ((ho30 j (ll_ne0 hj)).trans ((ho27 j (ll_ne0 hj)).trans ((ho26 j (ll_ne0 hj)).trans ((ho24 j (ll_ne0 hj)).trans ((ho21 j (ll_ne0 hj)).trans ((ho20 j (ll_ne0 hj)).trans ((ho19 j (ll_ne0 hj)).trans ((ho18 j (ll_ne0 hj)).trans ((ho16 j (ll_ne0 hj)).trans ((ho15 j (ll_ne0 hj)).trans ((ho14 j (ll_ne0 hj)).trans ((ho12 j (ll_ne0 hj)).trans ((ho11 j (ll_ne0 hj)).trans ((ho10 j (ll_ne0 hj)).trans ((ho8 j (ll_ne0 hj)).trans ((ho7 j (ll_ne0 hj)).trans ((ho6 j (ll_ne0 hj)).trans ((ho4 j (ll_ne0 hj)).trans ((ho3 j (ll_ne0 hj)).trans ((ho2 j (ll_ne0 hj)).trans (ho1 j (ll_ne0 hj))))))))))))))))))))))))))))))))))))))
                refine jd_place (fun k => decide ((1 ≤ k ∧ k < 20) ∨ 40 ≤ k)) [a, la, mA, l1, l2, l3, l4, d0, d1, d2, d3, d4, d5] [(21, 0), (21, 1), (21, 6), (22, 1), (22, 2), (22, 3), (22, 4), (23, 0), (23, 1), (23, 2), (23, 3), (23, 4), (23, 5)] rfl rfl (by decide) ?_ (by decide) (fun h9 k1 k2 k3 => ?_)
                · exact List.nodup_cons.mpr ⟨fun hm => by simp only [List.mem_cons, List.not_mem_nil, or_false] at hm; rcases hm with e | e | e | e | e | e | e | e | e | e | e | e; exact ne_a_la (by rw [e]); exact ne_a_mA (by rw [e]); exact ne_a_l1 (by rw [e]); exact ne_a_l2 (by rw [e]); exact ne_a_l3 (by rw [e]); exact ne_a_l4 (by rw [e]); exact ne_a_d0 (by rw [e]); exact ne_a_d1 (by rw [e]); exact ne_a_d2 (by rw [e]); exact ne_a_d3 (by rw [e]); exact ne_a_d4 (by rw [e]); exact ne_a_d5 (by rw [e]), List.nodup_cons.mpr ⟨fun hm => by simp only [List.mem_cons, List.not_mem_nil, or_false] at hm; rcases hm with e | e | e | e | e | e | e | e | e | e | e; exact ne_la_mA (by rw [e]); exact ne_la_l1 (by rw [e]); exact ne_la_l2 (by rw [e]); exact ne_la_l3 (by rw [e]); exact ne_la_l4 (by rw [e]); exact ne_la_d0 (by rw [e]); exact ne_la_d1 (by rw [e]); exact ne_la_d2 (by rw [e]); exact ne_la_d3 (by rw [e]); exact ne_la_d4 (by rw [e]); exact ne_la_d5 (by rw [e]), List.nodup_cons.mpr ⟨fun hm => by simp only [List.mem_cons, List.not_mem_nil, or_false] at hm; rcases hm with e | e | e | e | e | e | e | e | e | e; exact (Ne.symm ne_l1_mA) (by rw [e]); exact (Ne.symm ne_l2_mA) (by rw [e]); exact (Ne.symm ne_l3_mA) (by rw [e]); exact (Ne.symm ne_l4_mA) (by rw [e]); exact ne_mA_d0 (by rw [e]); exact ne_mA_d1 (by rw [e]); exact ne_mA_d2 (by rw [e]); exact ne_mA_d3 (by rw [e]); exact ne_mA_d4 (by rw [e]); exact ne_mA_d5 (by rw [e]), List.nodup_cons.mpr ⟨fun hm => by simp only [List.mem_cons, List.not_mem_nil, or_false] at hm; rcases hm with e | e | e | e | e | e | e | e | e; exact ne_l1_l2 (by rw [e]); exact ne_l1_l3 (by rw [e]); exact ne_l1_l4 (by rw [e]); exact ne_l1_d0 (by rw [e]); exact ne_l1_d1 (by rw [e]); exact ne_l1_d2 (by rw [e]); exact ne_l1_d3 (by rw [e]); exact ne_l1_d4 (by rw [e]); exact ne_l1_d5 (by rw [e]), List.nodup_cons.mpr ⟨fun hm => by simp only [List.mem_cons, List.not_mem_nil, or_false] at hm; rcases hm with e | e | e | e | e | e | e | e; exact ne_l2_l3 (by rw [e]); exact ne_l2_l4 (by rw [e]); exact ne_l2_d0 (by rw [e]); exact ne_l2_d1 (by rw [e]); exact ne_l2_d2 (by rw [e]); exact ne_l2_d3 (by rw [e]); exact ne_l2_d4 (by rw [e]); exact ne_l2_d5 (by rw [e]), List.nodup_cons.mpr ⟨fun hm => by simp only [List.mem_cons, List.not_mem_nil, or_false] at hm; rcases hm with e | e | e | e | e | e | e; exact ne_l3_l4 (by rw [e]); exact ne_l3_d0 (by rw [e]); exact ne_l3_d1 (by rw [e]); exact ne_l3_d2 (by rw [e]); exact ne_l3_d3 (by rw [e]); exact ne_l3_d4 (by rw [e]); exact ne_l3_d5 (by rw [e]), List.nodup_cons.mpr ⟨fun hm => by simp only [List.mem_cons, List.not_mem_nil, or_false] at hm; rcases hm with e | e | e | e | e | e; exact ne_l4_d0 (by rw [e]); exact ne_l4_d1 (by rw [e]); exact ne_l4_d2 (by rw [e]); exact ne_l4_d3 (by rw [e]); exact ne_l4_d4 (by rw [e]); exact ne_l4_d5 (by rw [e]), List.nodup_cons.mpr ⟨fun hm => by simp only [List.mem_cons, List.not_mem_nil, or_false] at hm; rcases hm with e | e | e | e | e; exact ne_d0_d1 (by rw [e]); exact ne_d0_d2 (by rw [e]); exact ne_d0_d3 (by rw [e]); exact ne_d0_d4 (by rw [e]); exact ne_d0_d5 (by rw [e]), List.nodup_cons.mpr ⟨fun hm => by simp only [List.mem_cons, List.not_mem_nil, or_false] at hm; rcases hm with e | e | e | e; exact ne_d1_d2 (by rw [e]); exact ne_d1_d3 (by rw [e]); exact ne_d1_d4 (by rw [e]); exact ne_d1_d5 (by rw [e]), List.nodup_cons.mpr ⟨fun hm => by simp only [List.mem_cons, List.not_mem_nil, or_false] at hm; rcases hm with e | e | e; exact ne_d2_d3 (by rw [e]); exact ne_d2_d4 (by rw [e]); exact ne_d2_d5 (by rw [e]), List.nodup_cons.mpr ⟨fun hm => by simp only [List.mem_cons, List.not_mem_nil, or_false] at hm; rcases hm with e | e; exact ne_d3_d4 (by rw [e]); exact ne_d3_d5 (by rw [e]), List.nodup_cons.mpr ⟨fun hm => by simp only [List.mem_cons, List.not_mem_nil, or_false] at hm; have e := hm; exact ne_d4_d5 (by rw [e]), List.nodup_cons.mpr ⟨List.not_mem_nil, List.nodup_nil⟩⟩⟩⟩⟩⟩⟩⟩⟩⟩⟩⟩⟩
                have hnn : ∀ (f k : Nat), 24 ≤ f → f < 40 → h9 (f, k) = none := fun f k a b => k3 (f, k) (decide_eq_false (by show ¬ ((1 ≤ f ∧ f < 20) ∨ 40 ≤ f); omega)) (fun hm => by simp only [List.mem_cons, List.not_mem_nil, or_false, Prod.mk.injEq] at hm; omega)
                have hw0 : WM G (fun f j => if f = 0 then [a, la, l1, l2, l3, l4, mA].getD j 0 else if f = 1 then (va_up (va_up (va_up (va_up (va_up (va_up (fun _ => 0) 0 d0) 1 d1) 2 d2) 3 d3) 4 d4) 5 d5) j else 0) k_0 ((fun _ _ => 0), 0) h9 := by
                  exact ⟨(k1 0 _ _ rfl rfl).trans hf61_a, fun k hk => by rcases (by omega : k = 0 ∨ k = 1 ∨ k = 2 ∨ k = 3 ∨ k = 4 ∨ k = 5) with rfl | rfl | rfl | rfl | rfl | rfl; exact (k1 7 _ _ rfl rfl).trans hf61_d0; exact (k1 8 _ _ rfl rfl).trans hf61_d1; exact (k1 9 _ _ rfl rfl).trans hf61_d2; exact (k1 10 _ _ rfl rfl).trans hf61_d3; exact (k1 11 _ _ rfl rfl).trans hf61_d4; exact (k1 12 _ _ rfl rfl).trans hf61_d5, fun k hk => absurd hk (Nat.not_lt_zero k), fun k hk => absurd hk (Nat.not_lt_zero k), fun k hk => absurd hk (Nat.not_lt_zero k), (k1 1 _ _ rfl rfl).trans hf61_la, (k1 2 _ _ rfl rfl).trans hf61_mA, ⟨_, (k1 3 _ _ rfl rfl).trans hf61_l1⟩, ⟨_, (k1 4 _ _ rfl rfl).trans hf61_l2⟩, ⟨_, (k1 5 _ _ rfl rfl).trans hf61_l3⟩, ⟨_, (k1 6 _ _ rfl rfl).trans hs61⟩, fun k hk => absurd hk (Nat.not_lt_zero k), fun k hk => absurd hk (Nat.not_lt_zero k), fun k hk _ => absurd hk (Nat.not_lt_zero k), fun k hk _ _ => absurd hk (Nat.not_lt_zero k), fun k => ⟨fun _ => ⟨hnn 24 k (by omega) (by omega), hnn 25 k (by omega) (by omega), hnn 26 k (by omega) (by omega)⟩, fun _ => hnn 27 k (by omega) (by omega), fun _ => hnn 30 k (by omega) (by omega)⟩⟩
                exact jd_vret dX4_init_98 rfl ⟨rfl, _, _, rfl, hw0, fun j hj => (k2 j (decide_eq_true hj)).trans (hff j hj)⟩
              · omega
