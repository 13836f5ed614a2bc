/-! the model: new gates (printed by mk_c.py) -/
set_option maxRecDepth 20000 in
set_option maxHeartbeats 2000000 in
theorem ct_X8_init {G : jd_G} {h : jd_H} {a : Nat} (ho : h (0, a) = some (a, .inl (.inr (11, [.int (0), .int (0), .int (0), .int (0), .int (0), .int (0), .null, .null])))) : jd_Ct G mX8_init 4 (2) (100) [.ref (a)] h (fun (v : Option Value) (h2 : jd_H) => v = none ∧ ∃ qa ql : Nat, a ≠ qa ∧ a ≠ ql ∧ ql ≠ qa ∧ h (0, qa) = none ∧ h (0, ql) = none ∧ h2 (0, a) = some (a, .inl (.inr (11, [.int (0), .int (0), .int (0), .int (0), .int (5), .int (0), .ref (ql), .ref (qa)]))) ∧ h2 (0, qa) = some (qa, .inl (.inl (G.2.1 1, 97, .inl (fun _ => 0)))) ∧ h2 (0, ql) = some (ql, .inr (0, 0, fun _ => 0)) ∧ ∀ j : jd_Id, j ≠ (0, a) → j ≠ (0, qa) → j ≠ (0, ql) → h2 j = h j) jd_no := by
  refine jd_ct (ls := [some (.ref (a))]) rfl rfl (by decide) (Nat.le_of_ble_eq_true rfl) rfl ?_
  refine jd_aload_n dX8_init_0 rfl ?_
  refine jd_oinit q1539 q130 q131 dX8_init_1 (Nat.le_of_ble_eq_true rfl) ?_ (Nat.le_of_ble_eq_true rfl)
  refine jd_aload_n dX8_init_4 rfl ?_
  refine jd_iconst (v := 5) dX8_init_5 (by decide) ?_
  refine jd_put (fs' := [_, _, _, _, _, _, _, _]) in_X8 tyX8_ok nmX8 ho 4 q1550 dX8_init_6 rfl (Nat.le_of_ble_eq_true rfl) rfl rfl rfl (Nat.le_of_ble_eq_true rfl) rfl ?_
  refine jd_updG (fun h1 hs1 ho1 => ?_)
  refine jd_aload_n dX8_init_9 rfl ?_
  refine jd_new (fs := [.int (0), .null, .int (0)]) in_J2 tyJ2_ok q1540 q133 q83 dX8_init_10 15 rfl rfl (by omega) (by omega) (fun ql hql => ?_)
  have ne_a_ql : ((0, a) : jd_Id) ≠ (0, ql) := fun z => by have := hs1; rw [z, hql] at this; cases this
  have h0ql : h (0, ql) = none := ((ho1 _ (Ne.symm ne_a_ql))).symm.trans hql
  refine jd_updG (fun h2 hs2 ho2 => ?_)
  have hf2_a := (ho2 _ ne_a_ql).trans hs1
  refine jd_dup dX8_init_13 rfl ?_
  refine jd_callI (As := []) (rest := [.ref (ql), .ref (a)]) (ct_J2_init hs2) rfl rfl q1541 q135 q83 q136 nJ2_init dX8_init_14 rfl rfl (Nat.le_of_ble_eq_true rfl) ⟨(Nat.le_of_ble_eq_true rfl), (Nat.le_of_ble_eq_true rfl), by omega, by omega⟩ (fun rv2 hn2 hq2 => ?_) jd_nox
  obtain ⟨rfl, he2⟩ := hq2
  rw [he2]
  refine jd_updG (fun h4 hs4 ho4 => ?_)
  have hf4_a := (ho4 _ ne_a_ql).trans hf2_a
  refine jd_putF (fs' := [_, _, _, _, _, _, _, _]) in_X8 tyX8_ok nmX8 hf4_a 6 q1554 dX8_init_17 rfl (Nat.le_of_ble_eq_true rfl) rfl rfl rfl rfl rfl (Nat.le_of_ble_eq_true rfl) rfl ?_
  refine jd_updG (fun h5 hs5 ho5 => ?_)
  have hf5_ql := (ho5 _ (Ne.symm ne_a_ql)).trans hs4
  refine jd_aload_n dX8_init_20 rfl ?_
  refine jd_bipush (v := 97) dX8_init_21 (by decide) ?_
  refine jd_newa (atype := .boolean) (ty := .boolean) (N' := 97) rfl q810 dX8_init_23 1 rfl (by decide) rfl (nI_pos (n := 97) (by omega)) (nI_clamp (n := 97) (by omega)) (by show _ * 1 ≤ _; omega) (by omega) (by omega) (fun qa hqa => ?_)
  have ne_ql_qa : ((0, ql) : jd_Id) ≠ (0, qa) := fun z => by have := hf5_ql; rw [z, hqa] at this; cases this
  have ne_a_qa : ((0, a) : jd_Id) ≠ (0, qa) := fun z => by have := hs5; rw [z, hqa] at this; cases this
  have h0qa : h (0, qa) = none := (((ho5 _ (Ne.symm ne_a_qa)).trans ((ho4 _ (Ne.symm ne_ql_qa)).trans ((ho2 _ (Ne.symm ne_ql_qa)).trans (ho1 _ (Ne.symm ne_a_qa)))))).symm.trans hqa
  refine jd_updG (fun h6 hs6 ho6 => ?_)
  have hf6_ql := (ho6 _ ne_ql_qa).trans hf5_ql
  have hf6_a := (ho6 _ ne_a_qa).trans hs5
  refine jd_putF (fs' := [_, _, _, _, _, _, _, _]) in_X8 tyX8_ok nmX8 hf6_a 7 q1556 dX8_init_25 rfl (Nat.le_of_ble_eq_true rfl) rfl rfl rfl rfl rfl (Nat.le_of_ble_eq_true rfl) rfl ?_
  refine jd_updG (fun h7 hs7 ho7 => ?_)
  have hf7_ql := (ho7 _ (Ne.symm ne_a_ql)).trans hf6_ql
  have hf7_qa := (ho7 _ (Ne.symm ne_a_qa)).trans hs6
  exact jd_vret dX8_init_28 rfl ⟨rfl, qa, ql, (fun z => ne_a_qa (by rw [z])), (fun z => ne_a_ql (by rw [z])), (fun z => ne_ql_qa (by rw [z])), h0qa, h0ql, hs7, hf7_qa, hf7_ql, fun j n1 n2 n3 => ((ho7 j n1).trans ((ho6 j n2).trans ((ho5 j n1).trans ((ho4 j n3).trans ((ho2 j n3).trans (ho1 j n1))))))⟩

set_option maxRecDepth 20000 in
set_option maxHeartbeats 2000000 in
theorem ct_X4_gate {G : jd_G} {γ : ll_B} {κ : ll_K} {μ : ll_U} {h : jd_H} (hw : WM G γ κ μ h) (hI : ll_I κ) (o1 : Int32) (o2 : Int32) (fr : Int32) (hr : Int32) : jd_Ct G mX4_gate 11 (4) (140) [.ref (γ 0 0), .int (o1), .int (o2), .int (fr), .int (hr)] h (jd_mo G γ κ h (c_gate κ o1 o2 fr hr) (.int (nI (nG κ))) (k_addG κ (tN o1) (tN o2) fr hr)) jd_no := by
  obtain ⟨⟨hG8, hS12, hP24, hH40, hN99, hH24⟩, hIg, hIs, hIp, hIh, hIl, hIq⟩ := id hI
  obtain ⟨mcG, hlG⟩ := w_mgates hw
  obtain ⟨mcS, hlS⟩ := w_msleepers hw
  obtain ⟨mcP, hlP⟩ := w_mparts hw
  obtain ⟨mcH, hlH⟩ := w_mhidings hw
  refine jd_ct (ls := [some (.ref (γ 0 0)), some (.int (o1)), some (.int (o2)), some (.int (fr)), some (.int (hr)), none]) rfl rfl (by decide) (Nat.le_of_ble_eq_true rfl) rfl ?_
  refine jd_aload_n dX4_gate_0 rfl ?_
  refine jd_iconst (v := 0) dX4_gate_1 (by decide) ?_
  refine jd_put (fs' := [_, _, _, _, _, _, _, _, _, _, _, _, _]) in_X4 tyX4_ok nmX4 (w_mthis hw) 0 q1466 dX4_gate_2 rfl (Nat.le_of_ble_eq_true rfl) rfl rfl rfl (Nat.le_of_ble_eq_true rfl) rfl ?_
  refine jd_updG (fun h1 hs1 ho1 => ?_)
  have hw1 := m_thrown hw (v := 0) hs1 ho1
  refine jd_aload_n dX4_gate_5 rfl ?_
  refine jd_iload_n dX4_gate_6 rfl ?_
  refine jd_pV (As := [.int (o1)]) (rest := []) (ct_X4_isLand hw1 hI (o1)) (jd_rv (w_mthis hw1) 9 rfl rfl) rfl q1514 q1516 qs49 q90 q1517 nX4_isLand dX4_gate_7 rfl rfl rfl (Nat.le_of_ble_eq_true rfl) ⟨(Nat.le_of_ble_eq_true rfl), (Nat.le_of_ble_eq_true rfl)⟩ ?_
  refine jd_bif_eq (tgt := 21) dX4_gate_10 (by decide) (fun z2 => ?_) (fun z3 => ?_)
  · have hcc4 := (show ¬ (¬ o1 < 0 ∧ o1 < 6) from z2)
    refine jd_aload_n dX4_gate_21 rfl ?_
    refine jd_iconst (v := 1) dX4_gate_22 (by decide) ?_
    refine jd_callV (As := [.int (1)]) (rest := []) (ct_X4_refuse hw1 (1)) (jd_rv (w_mthis hw1) 9 rfl rfl) rfl q1521 q1523 qs50 q90 q1524 nX4_refuse dX4_gate_23 rfl rfl rfl (Nat.le_of_ble_eq_true rfl) ⟨(Nat.le_of_ble_eq_true rfl), (Nat.le_of_ble_eq_true rfl), by omega, by omega⟩ (fun rv4 hn4 hq4 => ?_) jd_nox
    obtain ⟨rfl, hw4_, hf4_⟩ := hq4
    exact jd_iret dX4_gate_26 rfl (jd_mo.no (γ' := γ) (μ' := (mu_s (mu_s μ 0 0 0) 0 0 1)) (k := 1) (by unfold c_gate; rw [if_neg hcc4]) (by decide) rfl hw4_ rfl (fun j hj => ((hf4_ j hj).trans (ho1 j (ll_nel (by decide) hj)))))
  · have hcc6 := (show ¬ o1 < 0 ∧ o1 < 6 from z3)
    obtain ⟨k_o1, hk_o1, rfl⟩ := inN_ex (n := 6) (by decide) hcc6
    have hT_o1 := tN_nI (show k_o1 < 2 ^ 31 by omega)
    refine jd_aload_n dX4_gate_13 rfl ?_
    refine jd_iload_n dX4_gate_14 rfl ?_
    refine jd_pV (As := [.int (o2)]) (rest := []) (ct_X4_isLand hw1 hI (o2)) (jd_rv (w_mthis hw1) 9 rfl rfl) rfl q1514 q1516 qs49 q90 q1517 nX4_isLand dX4_gate_15 rfl rfl rfl (Nat.le_of_ble_eq_true rfl) ⟨(Nat.le_of_ble_eq_true rfl), (Nat.le_of_ble_eq_true rfl)⟩ ?_
    refine jd_bif_ne (tgt := 27) dX4_gate_18 (by decide) (fun z7 => ?_) (fun z8 => ?_)
    · have hcc9 := (show ¬ o2 < 0 ∧ o2 < 6 from z7)
      obtain ⟨k_o2, hk_o2, rfl⟩ := inN_ex (n := 6) (by decide) hcc9
      have hT_o2 := tN_nI (show k_o2 < 2 ^ 31 by omega)
      refine jd_iload_n dX4_gate_27 rfl ?_
      refine jd_iload_n dX4_gate_28 rfl ?_
      refine jd_ncmp_eq (a := k_o1) (b := k_o2) (tgt := 53) dX4_gate_29 (by decide) (by omega) (by omega) (fun z10 => ?_) (fun z11 => ?_)
      · have hcc12 := (not_not_intro z10)
        refine jd_aload_n dX4_gate_53 rfl ?_
        refine jd_iconst (v := 2) dX4_gate_54 (by decide) ?_
        refine jd_callV (As := [.int (2)]) (rest := []) (ct_X4_refuse hw1 (2)) (jd_rv (w_mthis hw1) 9 rfl rfl) rfl q1521 q1523 qs50 q90 q1524 nX4_refuse dX4_gate_55 rfl rfl rfl (Nat.le_of_ble_eq_true rfl) ⟨(Nat.le_of_ble_eq_true rfl), (Nat.le_of_ble_eq_true rfl), by omega, by omega⟩ (fun rv12 hn12 hq12 => ?_) jd_nox
        obtain ⟨rfl, hw12_, hf12_⟩ := hq12
        exact jd_iret dX4_gate_58 rfl (jd_mo.no (γ' := γ) (μ' := (mu_s (mu_s μ 0 0 0) 0 0 2)) (k := 2) (by unfold c_gate; (try simp only [hT_o1, hT_o2]); rw [if_pos hcc6, if_pos hcc9, if_neg hcc12]) (by decide) rfl hw12_ rfl (fun j hj => ((hf12_ j hj).trans (ho1 j (ll_nel (by decide) hj)))))
      · have hcc14 := z11
        refine jd_iload_n dX4_gate_32 rfl ?_
        refine jd_iconst (v := 0) dX4_gate_33 (by decide) ?_
        refine jd_bipush (v := 23) dX4_gate_34 (by decide) ?_
        refine jd_pS (As := [.int (fr), .int (0), .int (23)]) (rest := []) (ct_X4_is (fr) (0) (23)) rfl q1518 q1519 q90 q1520 nX4_is dX4_gate_36 rfl rfl (Nat.le_of_ble_eq_true rfl) ⟨(Nat.le_of_ble_eq_true rfl), (Nat.le_of_ble_eq_true rfl)⟩ ?_
        refine jd_bif_eq (tgt := 53) dX4_gate_39 (by decide) (fun z15 => ?_) (fun z16 => ?_)
        · have hcc17 := z15
          refine jd_aload_n dX4_gate_53 rfl ?_
          refine jd_iconst (v := 2) dX4_gate_54 (by decide) ?_
          refine jd_callV (As := [.int (2)]) (rest := []) (ct_X4_refuse hw1 (2)) (jd_rv (w_mthis hw1) 9 rfl rfl) rfl q1521 q1523 qs50 q90 q1524 nX4_refuse dX4_gate_55 rfl rfl rfl (Nat.le_of_ble_eq_true rfl) ⟨(Nat.le_of_ble_eq_true rfl), (Nat.le_of_ble_eq_true rfl), by omega, by omega⟩ (fun rv17 hn17 hq17 => ?_) jd_nox
          obtain ⟨rfl, hw17_, hf17_⟩ := hq17
          exact jd_iret dX4_gate_58 rfl (jd_mo.no (γ' := γ) (μ' := (mu_s (mu_s μ 0 0 0) 0 0 2)) (k := 2) (by unfold c_gate; (try simp only [hT_o1, hT_o2]); rw [if_pos hcc6, if_pos hcc9, if_pos hcc14, if_neg hcc17]) (by decide) rfl hw17_ rfl (fun j hj => ((hf17_ j hj).trans (ho1 j (ll_nel (by decide) hj)))))
        · have hcc19 := z16
          refine jd_iload dX4_gate_42 rfl ?_
          refine jd_iconst (v := 1) dX4_gate_44 (by decide) ?_
          refine jd_bipush (v := 24) dX4_gate_45 (by decide) ?_
          refine jd_pS (As := [.int (hr), .int (1), .int (24)]) (rest := []) (ct_X4_is (hr) (1) (24)) rfl q1518 q1519 q90 q1520 nX4_is dX4_gate_47 rfl rfl (Nat.le_of_ble_eq_true rfl) ⟨(Nat.le_of_ble_eq_true rfl), (Nat.le_of_ble_eq_true rfl)⟩ ?_
          refine jd_bif_ne (tgt := 59) dX4_gate_50 (by decide) (fun z20 => ?_) (fun z21 => ?_)
          · have hcc22 := z20
            refine jd_aload_n dX4_gate_59 rfl ?_
            refine jd_get in_X4 (w_mthis hw1) 7 q1473 dX4_gate_60 rfl (Nat.le_of_ble_eq_true rfl) rfl ?_
            obtain ⟨mcl23, hl23_⟩ := w_mgates hw1
            refine jd_pV (As := []) (rest := []) (ct_J2_size hl23_ (show nG κ ≤ 900 by omega)) (jd_rv hl23_ 15 rfl rfl) rfl q1533 q344 q1999 q83 q346 nJ2_size dX4_gate_63 rfl rfl rfl (Nat.le_of_ble_eq_true rfl) ⟨(Nat.le_of_ble_eq_true rfl), (Nat.le_of_ble_eq_true rfl)⟩ ?_
            refine jd_bipush (v := 8) dX4_gate_66 (by decide) ?_
            refine jd_ncmp_ne (a := nG κ) (b := 8) (tgt := 77) dX4_gate_68 (by decide) (by omega) (by omega) (fun z24 => ?_) (fun z25 => ?_)
            · have hcc26 := (show ¬ 8 ≤ nG κ by omega)
              refine jd_new (fs := [.int (0), .int (0), .int (0), .int (0), .int (0), .int (0), .null, .null]) in_X8 tyX8_ok q1534 q1535 q104 dX4_gate_77 11 rfl rfl (by omega) (by omega) (fun qp hqp => ?_)
              obtain ⟨mcG2, hlG2⟩ := w_mgates hw1
              refine jd_dup dX4_gate_80 rfl ?_
              refine jd_callN (As := []) (rest := [.ref (qp)]) (ct_X8_init jd_up_s) rfl rfl q1536 q1537 q104 q1538 nX8_init dX4_gate_81 rfl rfl (Nat.le_of_ble_eq_true rfl) ⟨(Nat.le_of_ble_eq_true rfl), (Nat.le_of_ble_eq_true rfl), by omega, by omega⟩ (fun rv26 hn26 hq26 => ?_) jd_nox
              obtain ⟨rfl, qa, ql, n1, n2, n3, e1, e2, e3, e4, e5, e6⟩ := hq26
              have hqa : h1 (0, qa) = none := (jd_up_n (fun z => n1 (by injection z with _ z; exact z.symm))).symm.trans e1
              have hql : h1 (0, ql) = none := (jd_up_n (fun z => n2 (by injection z with _ z; exact z.symm))).symm.trans e2
              have hold : ∀ j : jd_Id, j ≠ (0, qp) → j ≠ (0, qa) → j ≠ (0, ql) → hn26 j = h1 j := fun j a b d => (e6 j a b d).trans (jd_up_n a)
              have ne_qp_qa : ((0, qp) : jd_Id) ≠ (0, qa) := fun z => n1 (by injection z)
              have ne_qp_ql : ((0, qp) : jd_Id) ≠ (0, ql) := fun z => n2 (by injection z)
              refine jd_astore (ls' := [_, _, _, _, _, _]) dX4_gate_84 (Nat.le_of_ble_eq_true rfl) rfl rfl ?_
              refine jd_aload dX4_gate_86 rfl ?_
              refine jd_iload_n dX4_gate_88 rfl ?_
              refine jd_putN (fs' := [_, _, _, _, _, _, _, _]) in_X8 tyX8_ok nmX8 e3 0 q1543 dX4_gate_89 rfl (Nat.le_of_ble_eq_true rfl) rfl rfl rfl (Nat.le_of_ble_eq_true rfl) rfl ?_
              refine jd_updG (fun h28 hs28 ho28 => ?_)
              have hf28_qa := (ho28 _ (Ne.symm ne_qp_qa)).trans e4
              have hf28_ql := (ho28 _ (Ne.symm ne_qp_ql)).trans e5
              refine jd_aload dX4_gate_92 rfl ?_
              refine jd_iload_n dX4_gate_94 rfl ?_
              refine jd_putN (fs' := [_, _, _, _, _, _, _, _]) in_X8 tyX8_ok nmX8 hs28 1 q1545 dX4_gate_95 rfl (Nat.le_of_ble_eq_true rfl) rfl rfl rfl (Nat.le_of_ble_eq_true rfl) rfl ?_
              refine jd_updG (fun h29 hs29 ho29 => ?_)
              have hf29_qa := (ho29 _ (Ne.symm ne_qp_qa)).trans hf28_qa
              have hf29_ql := (ho29 _ (Ne.symm ne_qp_ql)).trans hf28_ql
              refine jd_aload dX4_gate_98 rfl ?_
              refine jd_iload_n dX4_gate_100 rfl ?_
              refine jd_putN (fs' := [_, _, _, _, _, _, _, _]) in_X8 tyX8_ok nmX8 hs29 2 q1547 dX4_gate_101 rfl (Nat.le_of_ble_eq_true rfl) rfl rfl rfl (Nat.le_of_ble_eq_true rfl) rfl ?_
              refine jd_updG (fun h30 hs30 ho30 => ?_)
              have hf30_qa := (ho30 _ (Ne.symm ne_qp_qa)).trans hf29_qa
              have hf30_ql := (ho30 _ (Ne.symm ne_qp_ql)).trans hf29_ql
              refine jd_aload dX4_gate_104 rfl ?_
              refine jd_iload dX4_gate_106 rfl ?_
              refine jd_putN (fs' := [_, _, _, _, _, _, _, _]) in_X8 tyX8_ok nmX8 hs30 3 q1549 dX4_gate_108 rfl (Nat.le_of_ble_eq_true rfl) rfl rfl rfl (Nat.le_of_ble_eq_true rfl) rfl ?_
              refine jd_updG (fun h31 hs31 ho31 => ?_)
              have hf31_qa := (ho31 _ (Ne.symm ne_qp_qa)).trans hf30_qa
              have hf31_ql := (ho31 _ (Ne.symm ne_qp_ql)).trans hf30_ql
              have hold1 : ∀ j : jd_Id, j ≠ (0, qp) → j ≠ (0, qa) → j ≠ (0, ql) → h31 j = h1 j := fun j a b d => ((ho31 j a).trans ((ho30 j a).trans ((ho29 j a).trans (ho28 j a)))).trans (hold j a b d)
              refine jd_aload_n dX4_gate_111 rfl ?_
              refine jd_get in_X4 ((hold1 (21, 0) (fun z => by cases z) (fun z => by cases z) (fun z => by cases z)).trans (w_mthis hw1)) 7 q1473 dX4_gate_112 rfl (Nat.le_of_ble_eq_true rfl) rfl ?_
              refine jd_aload dX4_gate_115 rfl ?_
              have hold2 : ∀ j : jd_Id, j ≠ (0, qp) → j ≠ (0, qa) → j ≠ (0, ql) → h31 j = h1 j := fun j a b d => ((ho31 j a).trans ((ho30 j a).trans ((ho29 j a).trans (ho28 j a)))).trans (hold j a b d)
              have hlg := (hold2 (22, 1) (fun z => by cases z) (fun z => by cases z) (fun z => by cases z)).trans hlG2
              refine jd_callV (As := [.ref (qp)]) (rest := []) (ct_J2_add (n := nG κ) hlg (show nG κ ≤ 600 by omega) (Cn := "LullabygateModel$Gate") q2018 (fun k hk => Or.inl ⟨(24, k), _, 11, _, (hold2 (24, k) (fun z => by cases z) (fun z => by cases z) (fun z => by cases z)).trans (w_mgate hw1 k hk), rfl, rfl, rfl⟩) (Or.inl ⟨(0, qp), _, 11, _, hs31, rfl, rfl, rfl⟩)) (jd_rv ((hold1 (22, 1) (fun z => by cases z) (fun z => by cases z) (fun z => by cases z)).trans hlG2) 15 rfl rfl) rfl q1575 q210 q2000 q83 q212 nJ2_add dX4_gate_117 rfl rfl rfl (Nat.le_of_ble_eq_true rfl) ⟨(Nat.le_of_ble_eq_true rfl), (Nat.le_of_ble_eq_true rfl), by omega, by omega⟩ (fun rv31 hn31 hq31 => ?_) jd_nox
              obtain ⟨rfl, he31⟩ := hq31
              rw [he31]
              refine jd_updG (fun h6 hs6 ho6 => ?_)
              refine jd_lst ((ho6 _ (fun z => by cases z)).trans hf31_ql) (f2 := fun _ => jd_bx G 12) (fun k hk => absurd hk (Nat.not_lt_zero k)) ?_
              refine jd_updG (fun h8 hs8 ho8 => ?_)
              have ho9 : ∀ j : jd_Id, j ≠ (22, 1) → j ≠ (0, ql) → h8 j = h31 j := fun j a b => (ho8 j b).trans (ho6 j a)
              refine jd_map3m (n := nG κ) ((ho9 _ (fun z => by cases z) (fun z => n2 (by injection z))).trans hs31) hs8 ((ho9 _ (fun z => by cases z) (fun z => n3 (by injection z with _ z; exact z.symm))).trans hf31_qa) n2 n1 n3 (fun h7 g4 g5 g6 g7 => ?_)
              have hw7 := m_addG hw1 g4 g5 g6 ⟨_, (g7 _ (fun z => by cases z) (fun z => by cases z) (fun z => by cases z) (fun z => by cases z) (fun z => by cases z) (fun z => by cases z)).trans ((ho8 _ (fun z => by cases z)).trans hs6)⟩ (fun j a b c d e => (g7 j b c d (fun z => a (by rw [z])) (fun z => a (by rw [z])) (fun z => a (by rw [z]))).trans ((ho9 j e (fun z => a (by rw [z]))).trans (hold2 j (fun z => a (by rw [z])) (fun z => a (by rw [z])) (fun z => a (by rw [z])))))
              have hf7 : ∀ j : jd_Id, (j.1 < 20 ∨ 40 ≤ j.1) → j ≠ (0, qp) → j ≠ (0, qa) → j ≠ (0, ql) → h7 j = h1 j := fun j hj x1 x2 x3 => (g7 j (ll_nel ⟨by decide, by decide⟩ hj) (ll_nel ⟨by decide, by decide⟩ hj) (ll_nel ⟨by decide, by decide⟩ hj) x1 x3 x2).trans ((ho9 j (ll_nel ⟨by decide, by decide⟩ hj) x3).trans (hold2 j x1 x2 x3))
              refine jd_drop (h' := fun j => if j = (0, qp) ∨ j = (0, qa) ∨ j = (0, ql) then none else h7 j) (fun i x e => by by_cases z : i = (0, qp) ∨ i = (0, qa) ∨ i = (0, ql); (simp only [if_pos z] at e; cases e); (simp only [if_neg z] at e; exact e)) ?_
              refine jd_gen (fun h5 => (∀ j : jd_Id, j.1 ≠ 0 → h5 j = h7 j) ∧ ∀ j : jd_Id, (j.1 < 20 ∨ 40 ≤ j.1) → h5 j = h1 j) ⟨fun j hj => if_neg (fun z => hj (by rcases z with z | z | z <;> rw [z])), fun j hj => ?_⟩ (fun h5 hh5 => ?_)
              · by_cases z : j = (0, qp) ∨ j = (0, qa) ∨ j = (0, ql)
                · simp only [if_pos z]; rcases z with z | z | z <;> rw [z]; exact hqp.symm; exact hqa.symm; exact hql.symm
                · simp only [if_neg z]; exact hf7 j hj (fun y => z (Or.inl y)) (fun y => z (Or.inr (Or.inl y))) (fun y => z (Or.inr (Or.inr y)))
              have hw5 := hw7.of (fun j hj => hh5.1 j (fun z => by omega))
              have hf5 := hh5.2
              refine jd_pop dX4_gate_120 rfl ?_
              refine jd_aload_n dX4_gate_121 rfl ?_
              have ff33 := w_mthis hw5
              refine jd_get in_X4 ff33 7 q1473 dX4_gate_122 rfl (Nat.le_of_ble_eq_true rfl) rfl ?_
              obtain ⟨mcl34, hl34_⟩ := w_mgates hw5
              refine jd_pV (As := []) (rest := []) (ct_J2_size hl34_ (show (nG κ + 1) ≤ 900 by omega)) (jd_rv hl34_ 15 rfl rfl) rfl q1533 q344 q1999 q83 q346 nJ2_size dX4_gate_125 rfl rfl rfl (Nat.le_of_ble_eq_true rfl) ⟨(Nat.le_of_ble_eq_true rfl), (Nat.le_of_ble_eq_true rfl)⟩ ?_
              refine jd_iconst (v := 1) dX4_gate_128 (by decide) ?_
              refine jd_isubN (a := (nG κ + 1)) (b := 1) dX4_gate_129 (by omega) ?_
              exact jd_iret dX4_gate_130 rfl (jd_mo.ok (γ' := (ll_bu (ll_bu (ll_bu γ 2 (nG κ) qp) 4 (nG κ) qa) 3 (nG κ) ql)) (μ' := (mu_s μ 0 0 0)) (by unfold c_gate; (try simp only [hT_o1, hT_o2]); rw [if_pos hcc6, if_pos hcc9, if_pos hcc14, if_pos hcc19, if_pos hcc22, if_pos hcc26]) (by first | (simp only [hT_o1, hT_o2]; done) | (simp only [hT_o1, hT_o2]; rfl) | rfl) rfl (by first | (simp only [hT_o1, hT_o2]; exact hw5) | exact hw5) rfl (fun j hj => ((hf5 j hj).trans (ho1 j (ll_nel (by decide) hj)))))
            · have hcc35 := (show ¬ ¬ 8 ≤ nG κ by omega)
              refine jd_aload_n dX4_gate_71 rfl ?_
              refine jd_iconst (v := 3) dX4_gate_72 (by decide) ?_
              refine jd_callV (As := [.int (3)]) (rest := []) (ct_X4_refuse hw1 (3)) (jd_rv (w_mthis hw1) 9 rfl rfl) rfl q1521 q1523 qs50 q90 q1524 nX4_refuse dX4_gate_73 rfl rfl rfl (Nat.le_of_ble_eq_true rfl) ⟨(Nat.le_of_ble_eq_true rfl), (Nat.le_of_ble_eq_true rfl), by omega, by omega⟩ (fun rv35 hn35 hq35 => ?_) jd_nox
              obtain ⟨rfl, hw35_, hf35_⟩ := hq35
              exact jd_iret dX4_gate_76 rfl (jd_mo.no (γ' := γ) (μ' := (mu_s (mu_s μ 0 0 0) 0 0 3)) (k := 3) (by unfold c_gate; (try simp only [hT_o1, hT_o2]); rw [if_pos hcc6, if_pos hcc9, if_pos hcc14, if_pos hcc19, if_pos hcc22, if_neg hcc35]) (by decide) rfl hw35_ rfl (fun j hj => ((hf35_ j hj).trans (ho1 j (ll_nel (by decide) hj)))))
          · have hcc37 := z21
            refine jd_aload_n dX4_gate_53 rfl ?_
            refine jd_iconst (v := 2) dX4_gate_54 (by decide) ?_
            refine jd_callV (As := [.int (2)]) (rest := []) (ct_X4_refuse hw1 (2)) (jd_rv (w_mthis hw1) 9 rfl rfl) rfl q1521 q1523 qs50 q90 q1524 nX4_refuse dX4_gate_55 rfl rfl rfl (Nat.le_of_ble_eq_true rfl) ⟨(Nat.le_of_ble_eq_true rfl), (Nat.le_of_ble_eq_true rfl), by omega, by omega⟩ (fun rv37 hn37 hq37 => ?_) jd_nox
            obtain ⟨rfl, hw37_, hf37_⟩ := hq37
            exact jd_iret dX4_gate_58 rfl (jd_mo.no (γ' := γ) (μ' := (mu_s (mu_s μ 0 0 0) 0 0 2)) (k := 2) (by unfold c_gate; (try simp only [hT_o1, hT_o2]); rw [if_pos hcc6, if_pos hcc9, if_pos hcc14, if_pos hcc19, if_neg hcc37]) (by decide) rfl hw37_ rfl (fun j hj => ((hf37_ j hj).trans (ho1 j (ll_nel (by decide) hj)))))
    · have hcc39 := (show ¬ (¬ o2 < 0 ∧ o2 < 6) from z8)
      refine jd_aload_n dX4_gate_21 rfl ?_
      refine jd_iconst (v := 1) dX4_gate_22 (by decide) ?_
      refine jd_callV (As := [.int (1)]) (rest := []) (ct_X4_refuse hw1 (1)) (jd_rv (w_mthis hw1) 9 rfl rfl) rfl q1521 q1523 qs50 q90 q1524 nX4_refuse dX4_gate_23 rfl rfl rfl (Nat.le_of_ble_eq_true rfl) ⟨(Nat.le_of_ble_eq_true rfl), (Nat.le_of_ble_eq_true rfl), by omega, by omega⟩ (fun rv39 hn39 hq39 => ?_) jd_nox
      obtain ⟨rfl, hw39_, hf39_⟩ := hq39
      exact jd_iret dX4_gate_26 rfl (jd_mo.no (γ' := γ) (μ' := (mu_s (mu_s μ 0 0 0) 0 0 1)) (k := 1) (by unfold c_gate; (try simp only [hT_o1]); rw [if_pos hcc6, if_neg hcc39]) (by decide) rfl hw39_ rfl (fun j hj => ((hf39_ j hj).trans (ho1 j (ll_nel (by decide) hj)))))
